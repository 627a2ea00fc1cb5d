/-! ROWS: stack, locals, arithmetic, branches -/
set_option maxRecDepth 100000
section VROW
variable {α : Type} {P : vX → Prop} {emb : α → vRes} {cc : ByteArray} {nL : Nat} {own : String} {ret : Option FieldType} {d : Nat} {σ : vMem} {pc : Nat} {ls : List (Option Value)} {st : List Value} {t : Option α}
theorem V_none : V P emb σ pc ls st (none : Option α) := fun _ h => by cases h
theorem V_eq {t' : Option α} (h : t = t') (k : V P emb σ pc ls st t') : V P emb σ pc ls st t := h ▸ k
theorem V_let {β : Type} {f : β} {g : β → Option α} (B : β → Prop) (hf : B f) (kk : ∀ k, B k → V P emb σ pc ls st (g k)) : V P emb σ pc ls st (vl f g) := kk f hf
theorem V_clr (is : List Nat) {ls' : List (Option Value)} (hl : vclr ls is = ls') (k : V P emb σ pc ls' st t) : V P emb σ pc ls st t := by
  intro r hr
  obtain ⟨h1, h2, h3⟩ := k r hr
  refine ⟨h1, h2, fun X hX g1 g2 g3 g4 H locs L hR hS hL => h3 X hX g1 g2 g3 g4 H locs L hR hS (vls_le hL (by rw [← hl]; exact vle_clr is ls))⟩
theorem V_ck {c : Prop} [Decidable c] (k : c → V P emb σ pc ls st t) : V P emb σ pc ls st (ck c t) := by
  intro r hr
  unfold ck at hr
  by_cases h : c
  · rw [if_pos h] at hr; exact k h r hr
  · rw [if_neg h] at hr; cases hr
theorem V_cko {a : Nat} {S : List Nat} (k : knd σ a ∈ S → V P emb σ pc ls st t) : V P emb σ pc ls st (cko σ a S t) := by
  intro r hr
  unfold cko at hr
  by_cases h : knd σ a ∈ S
  · rw [if_pos h] at hr; exact k h r hr
  · rw [if_neg h] at hr; cases hr
theorem V_cka {a q : Nat} {i : Int32} (k : knd σ a = q → ¬ (i < 0 ∨ len σ a ≤ i.toNatClampNeg) → V P emb σ pc ls st t) : V P emb σ pc ls st (cka σ a q i t) := by
  intro r hr
  unfold cka at hr
  by_cases h : knd σ a = q ∧ ¬ (i < 0 ∨ len σ a ≤ i.toNatClampNeg)
  · rw [if_pos h] at hr; exact k h.1 h.2 r hr
  · rw [if_neg h] at hr; cases hr
/-- the top of the stack is a reference out of the memory: not null -/
theorem V_dr {o : Option Nat} {f : Nat → Option α} (k : ∀ a, V P emb σ pc ls (.ref a :: st) (f a)) : V P emb σ pc ls (va_rf o :: st) (dr o f) := by
  cases o with
  | none => exact V_none
  | some a => exact k a
/-- .. or null -/
theorem V_onr {o : Option Nat} {t0 : Option α} {f : Nat → Option α} (k0 : V P emb σ pc ls (.null :: st) t0) (k : ∀ a, V P emb σ pc ls (.ref a :: st) (f a)) : V P emb σ pc ls (va_rf o :: st) (onr o t0 f) := by
  cases o with
  | none => exact k0
  | some a => exact k a

theorem V_iconst {n : Int} {v : Int32} (hC : vPx P cc nL own ret d) (hdg : decode cc pc = .ok (.iconst n, 1)) (hv : Int32.ofInt n = v) (kk : V P emb σ (pc + 1) ls (.int v :: st) t) : V P emb σ pc ls (st) t := by
  intro r hr
  obtain ⟨h1, h2, h3⟩ := kk r hr
  exact ⟨h1, h2, fun X hX g1 g2 g3 g4 H locs L hR hS hL => lv_iconst (hC X hX).exec (hC X hX).code hdg hv (h3 X hX g1 g2 g3 g4 H locs L hR hS hL)⟩
theorem V_bipush {n : Int} {v : Int32} (hC : vPx P cc nL own ret d) (hdg : decode cc pc = .ok (.bipush n, 2)) (hv : (Int8.ofInt n).toInt32 = v) (kk : V P emb σ (pc + 2) ls (.int v :: st) t) : V P emb σ pc ls (st) t := by
  intro r hr
  obtain ⟨h1, h2, h3⟩ := kk r hr
  exact ⟨h1, h2, fun X hX g1 g2 g3 g4 H locs L hR hS hL => lv_bipush (hC X hX).exec (hC X hX).code hdg hv (h3 X hX g1 g2 g3 g4 H locs L hR hS hL)⟩
theorem V_sipush {n : Int} {v : Int32} (hC : vPx P cc nL own ret d) (hdg : decode cc pc = .ok (.sipush n, 3)) (hv : (Int16.ofInt n).toInt32 = v) (kk : V P emb σ (pc + 3) ls (.int v :: st) t) : V P emb σ pc ls (st) t := by
  intro r hr
  obtain ⟨h1, h2, h3⟩ := kk r hr
  exact ⟨h1, h2, fun X hX g1 g2 g3 g4 H locs L hR hS hL => lv_sipush (hC X hX).exec (hC X hX).code hdg hv (h3 X hX g1 g2 g3 g4 H locs L hR hS hL)⟩
theorem V_lconst {n : Fin 2} {v : Int64} (hC : vPx P cc nL own ret d) (hdg : decode cc pc = .ok (.lconst n, 1)) (hv : Int64.ofNat (n : Nat) = v) (kk : V P emb σ (pc + 1) ls (.long v :: st) t) : V P emb σ pc ls (st) t := by
  intro r hr
  obtain ⟨h1, h2, h3⟩ := kk r hr
  exact ⟨h1, h2, fun X hX g1 g2 g3 g4 H locs L hR hS hL => lv_lconst (hC X hX).exec (hC X hX).code hdg hv (h3 X hX g1 g2 g3 g4 H locs L hR hS hL)⟩
theorem V_null  (hC : vPx P cc nL own ret d) (hdg : decode cc pc = .ok (.aconst_null, 1))  (kk : V P emb σ (pc + 1) ls (.null :: st) t) : V P emb σ pc ls (st) t := by
  intro r hr
  obtain ⟨h1, h2, h3⟩ := kk r hr
  exact ⟨h1, h2, fun X hX g1 g2 g3 g4 H locs L hR hS hL => lv_null (hC X hX).exec (hC X hX).code hdg (h3 X hX g1 g2 g3 g4 H locs L hR hS hL)⟩
theorem V_ldc {index : Nat} {v : Int32} (hC : vPx P cc nL own ret d) (hdg : decode cc pc = .ok (.ldc index, 2)) (hq : Jvm.Cond.constant own index v ∈ lw_all) (kk : V P emb σ (pc + 2) ls (.int v :: st) t) : V P emb σ pc ls (st) t := by
  intro r hr
  obtain ⟨h1, h2, h3⟩ := kk r hr
  exact ⟨h1, h2, fun X hX g1 g2 g3 g4 H locs L hR hS hL => lv_ldc (hC X hX).exec (hC X hX).code (hC X hX).hown ((hC X hX).ts _ hq) hdg (h3 X hX g1 g2 g3 g4 H locs L hR hS hL)⟩
theorem V_ldcw {index : Nat} {v : Int32} (hC : vPx P cc nL own ret d) (hdg : decode cc pc = .ok (.ldc_w index, 3)) (hq : Jvm.Cond.constant own index v ∈ lw_all) (kk : V P emb σ (pc + 3) ls (.int v :: st) t) : V P emb σ pc ls (st) t := by
  intro r hr
  obtain ⟨h1, h2, h3⟩ := kk r hr
  exact ⟨h1, h2, fun X hX g1 g2 g3 g4 H locs L hR hS hL => lv_ldcw (hC X hX).exec (hC X hX).code (hC X hX).hown ((hC X hX).ts _ hq) hdg (h3 X hX g1 g2 g3 g4 H locs L hR hS hL)⟩
theorem V_ldc2 {index : Nat} {v : Int64} (hC : vPx P cc nL own ret d) (hdg : decode cc pc = .ok (.ldc2_w index, 3)) (hq : Jvm.Cond.constantLong own index v ∈ lw_all) (kk : V P emb σ (pc + 3) ls (.long v :: st) t) : V P emb σ pc ls (st) t := by
  intro r hr
  obtain ⟨h1, h2, h3⟩ := kk r hr
  exact ⟨h1, h2, fun X hX g1 g2 g3 g4 H locs L hR hS hL => lv_ldc2 (hC X hX).exec (hC X hX).code (hC X hX).hown ((hC X hX).ts _ hq) hdg (h3 X hX g1 g2 g3 g4 H locs L hR hS hL)⟩
theorem V_iload_n {k : Fin 4} {x : Int32} (hC : vPx P cc nL own ret d) (hdg : decode cc pc = .ok (.iload_n k, 1)) (hl : ls[(k : Nat)]? = some (some (.int x))) (kk : V P emb σ (pc + 1) ls (.int x :: st) t) : V P emb σ pc ls (st) t := by
  intro r hr
  obtain ⟨h1, h2, h3⟩ := kk r hr
  exact ⟨h1, h2, fun X hX g1 g2 g3 g4 H locs L hR hS hL => lv_iload_n (hC X hX).exec (hC X hX).code hdg rfl (vls_at hL hl) (h3 X hX g1 g2 g3 g4 H locs L hR hS hL)⟩
theorem V_iload {i : Nat} {x : Int32} (hC : vPx P cc nL own ret d) (hdg : decode cc pc = .ok (.iload i, 2)) (hl : ls[i]? = some (some (.int x))) (kk : V P emb σ (pc + 2) ls (.int x :: st) t) : V P emb σ pc ls (st) t := by
  intro r hr
  obtain ⟨h1, h2, h3⟩ := kk r hr
  exact ⟨h1, h2, fun X hX g1 g2 g3 g4 H locs L hR hS hL => lv_iload (hC X hX).exec (hC X hX).code hdg (vls_at hL hl) (h3 X hX g1 g2 g3 g4 H locs L hR hS hL)⟩
theorem V_lload_n {k : Fin 4} {x : Int64} (hC : vPx P cc nL own ret d) (hdg : decode cc pc = .ok (.lload_n k, 1)) (hl : ls[(k : Nat)]? = some (some (.long x))) (kk : V P emb σ (pc + 1) ls (.long x :: st) t) : V P emb σ pc ls (st) t := by
  intro r hr
  obtain ⟨h1, h2, h3⟩ := kk r hr
  exact ⟨h1, h2, fun X hX g1 g2 g3 g4 H locs L hR hS hL => lv_lload_n (hC X hX).exec (hC X hX).code hdg rfl (vls_at hL hl) (h3 X hX g1 g2 g3 g4 H locs L hR hS hL)⟩
theorem V_lload {i : Nat} {x : Int64} (hC : vPx P cc nL own ret d) (hdg : decode cc pc = .ok (.lload i, 2)) (hl : ls[i]? = some (some (.long x))) (kk : V P emb σ (pc + 2) ls (.long x :: st) t) : V P emb σ pc ls (st) t := by
  intro r hr
  obtain ⟨h1, h2, h3⟩ := kk r hr
  exact ⟨h1, h2, fun X hX g1 g2 g3 g4 H locs L hR hS hL => lv_lload (hC X hX).exec (hC X hX).code hdg (vls_at hL hl) (h3 X hX g1 g2 g3 g4 H locs L hR hS hL)⟩
theorem V_aload_n {k : Fin 4} {x : Nat} (hC : vPx P cc nL own ret d) (hdg : decode cc pc = .ok (.aload_n k, 1)) (hl : ls[(k : Nat)]? = some (some (.ref x))) (kk : V P emb σ (pc + 1) ls (.ref x :: st) t) : V P emb σ pc ls (st) t := by
  intro r hr
  obtain ⟨h1, h2, h3⟩ := kk r hr
  exact ⟨h1, h2, fun X hX g1 g2 g3 g4 H locs L hR hS hL => lv_aload_n (hC X hX).exec (hC X hX).code hdg rfl (vls_at hL hl) (h3 X hX g1 g2 g3 g4 H locs L hR hS hL)⟩
theorem V_aload {i : Nat} {x : Nat} (hC : vPx P cc nL own ret d) (hdg : decode cc pc = .ok (.aload i, 2)) (hl : ls[i]? = some (some (.ref x))) (kk : V P emb σ (pc + 2) ls (.ref x :: st) t) : V P emb σ pc ls (st) t := by
  intro r hr
  obtain ⟨h1, h2, h3⟩ := kk r hr
  exact ⟨h1, h2, fun X hX g1 g2 g3 g4 H locs L hR hS hL => lv_aload (hC X hX).exec (hC X hX).code hdg (vls_at hL hl) (h3 X hX g1 g2 g3 g4 H locs L hR hS hL)⟩
theorem V_aload_nN {k : Fin 4} (hC : vPx P cc nL own ret d) (hdg : decode cc pc = .ok (.aload_n k, 1)) (hl : ls[(k : Nat)]? = some (some .null)) (kk : V P emb σ (pc + 1) ls (.null :: st) t) : V P emb σ pc ls (st) t := by
  intro r hr
  obtain ⟨h1, h2, h3⟩ := kk r hr
  exact ⟨h1, h2, fun X hX g1 g2 g3 g4 H locs L hR hS hL => lv_aload_nN (hC X hX).exec (hC X hX).code hdg rfl (vls_at hL hl) (h3 X hX g1 g2 g3 g4 H locs L hR hS hL)⟩
theorem V_aloadN {i : Nat} (hC : vPx P cc nL own ret d) (hdg : decode cc pc = .ok (.aload i, 2)) (hl : ls[i]? = some (some .null)) (kk : V P emb σ (pc + 2) ls (.null :: st) t) : V P emb σ pc ls (st) t := by
  intro r hr
  obtain ⟨h1, h2, h3⟩ := kk r hr
  exact ⟨h1, h2, fun X hX g1 g2 g3 g4 H locs L hR hS hL => lv_aloadN (hC X hX).exec (hC X hX).code hdg (vls_at hL hl) (h3 X hX g1 g2 g3 g4 H locs L hR hS hL)⟩
theorem V_aload_nq {k : Fin 4} {x : Option Nat} (hC : vPx P cc nL own ret d) (hdg : decode cc pc = .ok (.aload_n k, 1)) (hl : ls[(k : Nat)]? = some (some (va_rf x))) (kk : V P emb σ (pc + 1) ls (va_rf x :: st) t) : V P emb σ pc ls st t := by
  cases x with
  | none => exact V_aload_nN hC hdg hl kk
  | some a => exact V_aload_n hC hdg hl kk
theorem V_aloadq {i : Nat} {x : Option Nat} (hC : vPx P cc nL own ret d) (hdg : decode cc pc = .ok (.aload i, 2)) (hl : ls[i]? = some (some (va_rf x))) (kk : V P emb σ (pc + 2) ls (va_rf x :: st) t) : V P emb σ pc ls st t := by
  cases x with
  | none => exact V_aloadN hC hdg hl kk
  | some a => exact V_aload hC hdg hl kk
theorem V_istore_n {k : Fin 4} {x : Int32} {ls' : List (Option Value)} (hC : vPx P cc nL own ret d) (hdg : decode cc pc = .ok (.istore_n k, 1)) (hn : (k : Nat) < nL) (hok : vok1 ls (k : Nat) = true) (hl : ls.set (k : Nat) (some (.int x)) = ls') (kk : V P emb σ (pc + 1) ls' st t) : V P emb σ pc ls (.int x :: st) t := by
  subst hl
  intro r hr
  obtain ⟨h1, h2, h3⟩ := kk r hr
  exact ⟨h1, h2, fun X hX g1 g2 g3 g4 H locs L hR hS hL => lv_istore_n (hC X hX).exec (hC X hX).code hdg rfl hL (by rw [(hC X hX).ml]; exact hn) rfl (fun L' hL' => h3 X hX g1 g2 g3 g4 H locs L' hR hS (lv_mem hL' (fun q hq => vls_store1 (n := nL) hok q hq)))⟩
theorem V_istore {i : Nat} {x : Int32} {ls' : List (Option Value)} (hC : vPx P cc nL own ret d) (hdg : decode cc pc = .ok (.istore i, 2)) (hn : i < nL) (hok : vok1 ls i = true) (hl : ls.set i (some (.int x)) = ls') (kk : V P emb σ (pc + 2) ls' st t) : V P emb σ pc ls (.int x :: st) t := by
  subst hl
  intro r hr
  obtain ⟨h1, h2, h3⟩ := kk r hr
  exact ⟨h1, h2, fun X hX g1 g2 g3 g4 H locs L hR hS hL => lv_istore (hC X hX).exec (hC X hX).code hdg hL (by rw [(hC X hX).ml]; exact hn) rfl (fun L' hL' => h3 X hX g1 g2 g3 g4 H locs L' hR hS (lv_mem hL' (fun q hq => vls_store1 (n := nL) hok q hq)))⟩
theorem V_lstore_n {k : Fin 4} {x : Int64} {ls' : List (Option Value)} (hC : vPx P cc nL own ret d) (hdg : decode cc pc = .ok (.lstore_n k, 1)) (hn : (k : Nat) + 1 < nL) (hok : vok1 ls (k : Nat) = true) (hl : (ls.set (k : Nat) (some (.long x))).set ((k : Nat) + 1) none = ls') (kk : V P emb σ (pc + 1) ls' st t) : V P emb σ pc ls (.long x :: st) t := by
  subst hl
  intro r hr
  obtain ⟨h1, h2, h3⟩ := kk r hr
  exact ⟨h1, h2, fun X hX g1 g2 g3 g4 H locs L hR hS hL => lv_lstore_n (hC X hX).exec (hC X hX).code hdg rfl hL (by rw [(hC X hX).ml]; exact hn) rfl (fun L' hL' => h3 X hX g1 g2 g3 g4 H locs L' hR hS (lv_mem hL' (fun q hq => vls_store2 (n := nL) hok q hq)))⟩
theorem V_lstore {i : Nat} {x : Int64} {ls' : List (Option Value)} (hC : vPx P cc nL own ret d) (hdg : decode cc pc = .ok (.lstore i, 2)) (hn : i + 1 < nL) (hok : vok1 ls i = true) (hl : (ls.set i (some (.long x))).set (i + 1) none = ls') (kk : V P emb σ (pc + 2) ls' st t) : V P emb σ pc ls (.long x :: st) t := by
  subst hl
  intro r hr
  obtain ⟨h1, h2, h3⟩ := kk r hr
  exact ⟨h1, h2, fun X hX g1 g2 g3 g4 H locs L hR hS hL => lv_lstore (hC X hX).exec (hC X hX).code hdg hL (by rw [(hC X hX).ml]; exact hn) rfl (fun L' hL' => h3 X hX g1 g2 g3 g4 H locs L' hR hS (lv_mem hL' (fun q hq => vls_store2 (n := nL) hok q hq)))⟩
theorem V_astore_n {k : Fin 4} {x : Nat} {ls' : List (Option Value)} (hC : vPx P cc nL own ret d) (hdg : decode cc pc = .ok (.astore_n k, 1)) (hn : (k : Nat) < nL) (hok : vok1 ls (k : Nat) = true) (hl : ls.set (k : Nat) (some (.ref x)) = ls') (kk : V P emb σ (pc + 1) ls' st t) : V P emb σ pc ls (.ref x :: st) t := by
  subst hl
  intro r hr
  obtain ⟨h1, h2, h3⟩ := kk r hr
  exact ⟨h1, h2, fun X hX g1 g2 g3 g4 H locs L hR hS hL => lv_astore_n (hC X hX).exec (hC X hX).code hdg rfl hL (by rw [(hC X hX).ml]; exact hn) rfl (fun L' hL' => h3 X hX g1 g2 g3 g4 H locs L' hR hS (lv_mem hL' (fun q hq => vls_store1 (n := nL) hok q hq)))⟩
theorem V_astore {i : Nat} {x : Nat} {ls' : List (Option Value)} (hC : vPx P cc nL own ret d) (hdg : decode cc pc = .ok (.astore i, 2)) (hn : i < nL) (hok : vok1 ls i = true) (hl : ls.set i (some (.ref x)) = ls') (kk : V P emb σ (pc + 2) ls' st t) : V P emb σ pc ls (.ref x :: st) t := by
  subst hl
  intro r hr
  obtain ⟨h1, h2, h3⟩ := kk r hr
  exact ⟨h1, h2, fun X hX g1 g2 g3 g4 H locs L hR hS hL => lv_astore (hC X hX).exec (hC X hX).code hdg hL (by rw [(hC X hX).ml]; exact hn) rfl (fun L' hL' => h3 X hX g1 g2 g3 g4 H locs L' hR hS (lv_mem hL' (fun q hq => vls_store1 (n := nL) hok q hq)))⟩
theorem V_astore_nN {k : Fin 4} {ls' : List (Option Value)} (hC : vPx P cc nL own ret d) (hdg : decode cc pc = .ok (.astore_n k, 1)) (hn : (k : Nat) < nL) (hok : vok1 ls (k : Nat) = true) (hl : ls.set (k : Nat) (some (.null)) = ls') (kk : V P emb σ (pc + 1) ls' st t) : V P emb σ pc ls (.null :: st) t := by
  subst hl
  intro r hr
  obtain ⟨h1, h2, h3⟩ := kk r hr
  exact ⟨h1, h2, fun X hX g1 g2 g3 g4 H locs L hR hS hL => lv_astore_nN (hC X hX).exec (hC X hX).code hdg rfl hL (by rw [(hC X hX).ml]; exact hn) rfl (fun L' hL' => h3 X hX g1 g2 g3 g4 H locs L' hR hS (lv_mem hL' (fun q hq => vls_store1 (n := nL) hok q hq)))⟩
theorem V_astoreN {i : Nat} {ls' : List (Option Value)} (hC : vPx P cc nL own ret d) (hdg : decode cc pc = .ok (.astore i, 2)) (hn : i < nL) (hok : vok1 ls i = true) (hl : ls.set i (some (.null)) = ls') (kk : V P emb σ (pc + 2) ls' st t) : V P emb σ pc ls (.null :: st) t := by
  subst hl
  intro r hr
  obtain ⟨h1, h2, h3⟩ := kk r hr
  exact ⟨h1, h2, fun X hX g1 g2 g3 g4 H locs L hR hS hL => lv_astoreN (hC X hX).exec (hC X hX).code hdg hL (by rw [(hC X hX).ml]; exact hn) rfl (fun L' hL' => h3 X hX g1 g2 g3 g4 H locs L' hR hS (lv_mem hL' (fun q hq => vls_store1 (n := nL) hok q hq)))⟩
theorem V_istore_nL {k : Fin 4} {y : Int32} {f : Int32 → Option α} {ls' : Int32 → List (Option Value)} (hC : vPx P cc nL own ret d) (hdg : decode cc pc = .ok (.istore_n k, 1)) (hn : (k : Nat) < nL) (hok : vok1 ls (k : Nat) = true) (hl : ∀ x, ls.set (k : Nat) (some (.int x)) = ls' x) (kk : ∀ x, V P emb σ (pc + 1) (ls' x) st (f x)) : V P emb σ pc ls (.int y :: st) (vl y f) := V_istore_n hC hdg hn hok (hl y) (kk y)
theorem V_istoreL {i : Nat} {y : Int32} {f : Int32 → Option α} {ls' : Int32 → List (Option Value)} (hC : vPx P cc nL own ret d) (hdg : decode cc pc = .ok (.istore i, 2)) (hn : i < nL) (hok : vok1 ls i = true) (hl : ∀ x, ls.set i (some (.int x)) = ls' x) (kk : ∀ x, V P emb σ (pc + 2) (ls' x) st (f x)) : V P emb σ pc ls (.int y :: st) (vl y f) := V_istore hC hdg hn hok (hl y) (kk y)
theorem V_lstore_nL {k : Fin 4} {y : Int64} {f : Int64 → Option α} {ls' : Int64 → List (Option Value)} (hC : vPx P cc nL own ret d) (hdg : decode cc pc = .ok (.lstore_n k, 1)) (hn : (k : Nat) + 1 < nL) (hok : vok1 ls (k : Nat) = true) (hl : ∀ x, (ls.set (k : Nat) (some (.long x))).set ((k : Nat) + 1) none = ls' x) (kk : ∀ x, V P emb σ (pc + 1) (ls' x) st (f x)) : V P emb σ pc ls (.long y :: st) (vl y f) := V_lstore_n hC hdg hn hok (hl y) (kk y)
theorem V_lstoreL {i : Nat} {y : Int64} {f : Int64 → Option α} {ls' : Int64 → List (Option Value)} (hC : vPx P cc nL own ret d) (hdg : decode cc pc = .ok (.lstore i, 2)) (hn : i + 1 < nL) (hok : vok1 ls i = true) (hl : ∀ x, (ls.set i (some (.long x))).set (i + 1) none = ls' x) (kk : ∀ x, V P emb σ (pc + 2) (ls' x) st (f x)) : V P emb σ pc ls (.long y :: st) (vl y f) := V_lstore hC hdg hn hok (hl y) (kk y)
theorem V_iinc {i : Nat} {n : Int} {x : Int32} {ls' : List (Option Value)} (hC : vPx P cc nL own ret d) (hdg : decode cc pc = .ok (.iinc i n, 3)) (hx : ls[i]? = some (some (.int x))) (hn : i < nL) (hok : vok1 ls i = true) {v : Int32} (hv : x + Int32.ofInt n = v) (hl : ls.set i (some (.int v)) = ls') (kk : V P emb σ (pc + 3) ls' st t) : V P emb σ pc ls st t := by
  subst hl
  intro r hr
  obtain ⟨h1, h2, h3⟩ := kk r hr
  refine ⟨h1, h2, fun X hX g1 g2 g3 g4 H locs L hR hS hL => ?_⟩
  have hm : (i, Value.int x) ∈ vls X.E ls := by
    have h9 := vpr_mem ls 0 i (.int x) hx
    rw [Nat.zero_add] at h9
    exact List.mem_map.mpr ⟨(i, .int x), h9, rfl⟩
  obtain ⟨k, hk⟩ := List.getElem?_of_mem hm
  exact lv_iinc (hC X hX).exec (hC X hX).code hdg hL (k := k) hk hv (by rw [(hC X hX).ml]; exact hn) rfl (fun L' hL' => h3 X hX g1 g2 g3 g4 H locs L' hR hS (lv_mem hL' (fun q hq => vls_store1 (n := nL) (v := .int v) hok q hq)))
theorem V_iincL {i : Nat} {n : Int} {x : Int32} {f : Int32 → Option α} {ls' : Int32 → List (Option Value)} (hC : vPx P cc nL own ret d) (hdg : decode cc pc = .ok (.iinc i n, 3)) (hx : ls[i]? = some (some (.int x))) (hn : i < nL) (hok : vok1 ls i = true) {v : Int32} (hv : x + Int32.ofInt n = v) (hl : ∀ y, ls.set i (some (.int y)) = ls' y) (kk : ∀ y, V P emb σ (pc + 3) (ls' y) st (f y)) : V P emb σ pc ls st (vl v f) := V_iinc hC hdg hx hn hok hv (hl v) (kk v)
theorem V_iadd {x y : Int32} (hC : vPx P cc nL own ret d) (hdg : decode cc pc = .ok (.iadd, 1))  (kk : V P emb σ (pc + 1) ls (.int (x + y) :: st) t) : V P emb σ pc ls (.int y :: .int x :: st) t := by
  intro r hr
  obtain ⟨h1, h2, h3⟩ := kk r hr
  exact ⟨h1, h2, fun X hX g1 g2 g3 g4 H locs L hR hS hL => lv_iadd (hC X hX).exec (hC X hX).code hdg (h3 X hX g1 g2 g3 g4 H locs L hR hS hL)⟩
theorem V_isub {x y : Int32} (hC : vPx P cc nL own ret d) (hdg : decode cc pc = .ok (.isub, 1))  (kk : V P emb σ (pc + 1) ls (.int (x - y) :: st) t) : V P emb σ pc ls (.int y :: .int x :: st) t := by
  intro r hr
  obtain ⟨h1, h2, h3⟩ := kk r hr
  exact ⟨h1, h2, fun X hX g1 g2 g3 g4 H locs L hR hS hL => lv_isub (hC X hX).exec (hC X hX).code hdg (h3 X hX g1 g2 g3 g4 H locs L hR hS hL)⟩
theorem V_imul {x y : Int32} (hC : vPx P cc nL own ret d) (hdg : decode cc pc = .ok (.imul, 1))  (kk : V P emb σ (pc + 1) ls (.int (x * y) :: st) t) : V P emb σ pc ls (.int y :: .int x :: st) t := by
  intro r hr
  obtain ⟨h1, h2, h3⟩ := kk r hr
  exact ⟨h1, h2, fun X hX g1 g2 g3 g4 H locs L hR hS hL => lv_imul (hC X hX).exec (hC X hX).code hdg (h3 X hX g1 g2 g3 g4 H locs L hR hS hL)⟩
theorem V_iand {x y : Int32} (hC : vPx P cc nL own ret d) (hdg : decode cc pc = .ok (.iand, 1))  (kk : V P emb σ (pc + 1) ls (.int (x &&& y) :: st) t) : V P emb σ pc ls (.int y :: .int x :: st) t := by
  intro r hr
  obtain ⟨h1, h2, h3⟩ := kk r hr
  exact ⟨h1, h2, fun X hX g1 g2 g3 g4 H locs L hR hS hL => lv_iand (hC X hX).exec (hC X hX).code hdg (h3 X hX g1 g2 g3 g4 H locs L hR hS hL)⟩
theorem V_ior {x y : Int32} (hC : vPx P cc nL own ret d) (hdg : decode cc pc = .ok (.ior, 1))  (kk : V P emb σ (pc + 1) ls (.int (x ||| y) :: st) t) : V P emb σ pc ls (.int y :: .int x :: st) t := by
  intro r hr
  obtain ⟨h1, h2, h3⟩ := kk r hr
  exact ⟨h1, h2, fun X hX g1 g2 g3 g4 H locs L hR hS hL => lv_ior (hC X hX).exec (hC X hX).code hdg (h3 X hX g1 g2 g3 g4 H locs L hR hS hL)⟩
theorem V_ixor {x y : Int32} (hC : vPx P cc nL own ret d) (hdg : decode cc pc = .ok (.ixor, 1))  (kk : V P emb σ (pc + 1) ls (.int (x ^^^ y) :: st) t) : V P emb σ pc ls (.int y :: .int x :: st) t := by
  intro r hr
  obtain ⟨h1, h2, h3⟩ := kk r hr
  exact ⟨h1, h2, fun X hX g1 g2 g3 g4 H locs L hR hS hL => lv_ixor (hC X hX).exec (hC X hX).code hdg (h3 X hX g1 g2 g3 g4 H locs L hR hS hL)⟩
theorem V_ishl {x y : Int32} (hC : vPx P cc nL own ret d) (hdg : decode cc pc = .ok (.ishl, 1))  (kk : V P emb σ (pc + 1) ls (.int (x <<< (y &&& 31)) :: st) t) : V P emb σ pc ls (.int y :: .int x :: st) t := by
  intro r hr
  obtain ⟨h1, h2, h3⟩ := kk r hr
  exact ⟨h1, h2, fun X hX g1 g2 g3 g4 H locs L hR hS hL => lv_ishl (hC X hX).exec (hC X hX).code hdg (h3 X hX g1 g2 g3 g4 H locs L hR hS hL)⟩
theorem V_ishr {x y : Int32} (hC : vPx P cc nL own ret d) (hdg : decode cc pc = .ok (.ishr, 1))  (kk : V P emb σ (pc + 1) ls (.int (x >>> (y &&& 31)) :: st) t) : V P emb σ pc ls (.int y :: .int x :: st) t := by
  intro r hr
  obtain ⟨h1, h2, h3⟩ := kk r hr
  exact ⟨h1, h2, fun X hX g1 g2 g3 g4 H locs L hR hS hL => lv_ishr (hC X hX).exec (hC X hX).code hdg (h3 X hX g1 g2 g3 g4 H locs L hR hS hL)⟩
theorem V_iushr {x y : Int32} (hC : vPx P cc nL own ret d) (hdg : decode cc pc = .ok (.iushr, 1))  (kk : V P emb σ (pc + 1) ls (.int ((x.toUInt32 >>> (y.toUInt32 &&& Int32.toUInt32 31)).toInt32) :: st) t) : V P emb σ pc ls (.int y :: .int x :: st) t := by
  intro r hr
  obtain ⟨h1, h2, h3⟩ := kk r hr
  exact ⟨h1, h2, fun X hX g1 g2 g3 g4 H locs L hR hS hL => lv_iushr (hC X hX).exec (hC X hX).code hdg rfl (h3 X hX g1 g2 g3 g4 H locs L hR hS hL)⟩
theorem V_idiv {x y : Int32} (hC : vPx P cc nL own ret d) (hdg : decode cc pc = .ok (.idiv, 1)) (hne : ¬ y = 0) (kk : V P emb σ (pc + 1) ls (.int (x / y) :: st) t) : V P emb σ pc ls (.int y :: .int x :: st) t := by
  intro r hr
  obtain ⟨h1, h2, h3⟩ := kk r hr
  exact ⟨h1, h2, fun X hX g1 g2 g3 g4 H locs L hR hS hL => lv_idiv (hC X hX).exec (hC X hX).code hdg hne (h3 X hX g1 g2 g3 g4 H locs L hR hS hL)⟩
theorem V_irem {x y : Int32} (hC : vPx P cc nL own ret d) (hdg : decode cc pc = .ok (.irem, 1)) (hne : ¬ y = 0) (kk : V P emb σ (pc + 1) ls (.int (x - x / y * y) :: st) t) : V P emb σ pc ls (.int y :: .int x :: st) t := by
  intro r hr
  obtain ⟨h1, h2, h3⟩ := kk r hr
  exact ⟨h1, h2, fun X hX g1 g2 g3 g4 H locs L hR hS hL => lv_irem (hC X hX).exec (hC X hX).code hdg hne (h3 X hX g1 g2 g3 g4 H locs L hR hS hL)⟩
theorem V_ineg {x : Int32} (hC : vPx P cc nL own ret d) (hdg : decode cc pc = .ok (.ineg, 1))  (kk : V P emb σ (pc + 1) ls (.int (-x) :: st) t) : V P emb σ pc ls (.int x :: st) t := by
  intro r hr
  obtain ⟨h1, h2, h3⟩ := kk r hr
  exact ⟨h1, h2, fun X hX g1 g2 g3 g4 H locs L hR hS hL => lv_ineg (hC X hX).exec (hC X hX).code hdg (h3 X hX g1 g2 g3 g4 H locs L hR hS hL)⟩
theorem V_ladd {x y : Int64} (hC : vPx P cc nL own ret d) (hdg : decode cc pc = .ok (.ladd, 1))  (kk : V P emb σ (pc + 1) ls (.long (x + y) :: st) t) : V P emb σ pc ls (.long y :: .long x :: st) t := by
  intro r hr
  obtain ⟨h1, h2, h3⟩ := kk r hr
  exact ⟨h1, h2, fun X hX g1 g2 g3 g4 H locs L hR hS hL => lv_ladd (hC X hX).exec (hC X hX).code hdg (h3 X hX g1 g2 g3 g4 H locs L hR hS hL)⟩
theorem V_lsub {x y : Int64} (hC : vPx P cc nL own ret d) (hdg : decode cc pc = .ok (.lsub, 1))  (kk : V P emb σ (pc + 1) ls (.long (x - y) :: st) t) : V P emb σ pc ls (.long y :: .long x :: st) t := by
  intro r hr
  obtain ⟨h1, h2, h3⟩ := kk r hr
  exact ⟨h1, h2, fun X hX g1 g2 g3 g4 H locs L hR hS hL => lv_lsub (hC X hX).exec (hC X hX).code hdg (h3 X hX g1 g2 g3 g4 H locs L hR hS hL)⟩
theorem V_lmul {x y : Int64} (hC : vPx P cc nL own ret d) (hdg : decode cc pc = .ok (.lmul, 1))  (kk : V P emb σ (pc + 1) ls (.long (x * y) :: st) t) : V P emb σ pc ls (.long y :: .long x :: st) t := by
  intro r hr
  obtain ⟨h1, h2, h3⟩ := kk r hr
  exact ⟨h1, h2, fun X hX g1 g2 g3 g4 H locs L hR hS hL => lv_lmul (hC X hX).exec (hC X hX).code hdg (h3 X hX g1 g2 g3 g4 H locs L hR hS hL)⟩
theorem V_ldiv {x y : Int64} (hC : vPx P cc nL own ret d) (hdg : decode cc pc = .ok (.ldiv, 1)) (hne : ¬ y = 0) (kk : V P emb σ (pc + 1) ls (.long (x / y) :: st) t) : V P emb σ pc ls (.long y :: .long x :: st) t := by
  intro r hr
  obtain ⟨h1, h2, h3⟩ := kk r hr
  exact ⟨h1, h2, fun X hX g1 g2 g3 g4 H locs L hR hS hL => lv_ldiv (hC X hX).exec (hC X hX).code hdg hne (h3 X hX g1 g2 g3 g4 H locs L hR hS hL)⟩
theorem V_lrem {x y : Int64} (hC : vPx P cc nL own ret d) (hdg : decode cc pc = .ok (.lrem, 1)) (hne : ¬ y = 0) (kk : V P emb σ (pc + 1) ls (.long (x - x / y * y) :: st) t) : V P emb σ pc ls (.long y :: .long x :: st) t := by
  intro r hr
  obtain ⟨h1, h2, h3⟩ := kk r hr
  exact ⟨h1, h2, fun X hX g1 g2 g3 g4 H locs L hR hS hL => lv_lrem (hC X hX).exec (hC X hX).code hdg hne (h3 X hX g1 g2 g3 g4 H locs L hR hS hL)⟩
theorem V_lcmp {x y : Int64} (hC : vPx P cc nL own ret d) (hdg : decode cc pc = .ok (.lcmp, 1))  (kk : V P emb σ (pc + 1) ls (.int (lg_cmp x y) :: st) t) : V P emb σ pc ls (.long y :: .long x :: st) t := by
  intro r hr
  obtain ⟨h1, h2, h3⟩ := kk r hr
  exact ⟨h1, h2, fun X hX g1 g2 g3 g4 H locs L hR hS hL => W.lcmp (hC X hX).exec (hC X hX).code hdg (h3 X hX g1 g2 g3 g4 H locs L hR hS hL)⟩
theorem V_i2l {x : Int32} (hC : vPx P cc nL own ret d) (hdg : decode cc pc = .ok (.i2l, 1))  (kk : V P emb σ (pc + 1) ls (.long x.toInt64 :: st) t) : V P emb σ pc ls (.int x :: st) t := by
  intro r hr
  obtain ⟨h1, h2, h3⟩ := kk r hr
  exact ⟨h1, h2, fun X hX g1 g2 g3 g4 H locs L hR hS hL => lv_i2l (hC X hX).exec (hC X hX).code hdg rfl (h3 X hX g1 g2 g3 g4 H locs L hR hS hL)⟩
theorem V_l2i {x : Int64} (hC : vPx P cc nL own ret d) (hdg : decode cc pc = .ok (.l2i, 1))  (kk : V P emb σ (pc + 1) ls (.int x.toInt32 :: st) t) : V P emb σ pc ls (.long x :: st) t := by
  intro r hr
  obtain ⟨h1, h2, h3⟩ := kk r hr
  exact ⟨h1, h2, fun X hX g1 g2 g3 g4 H locs L hR hS hL => lv_l2i (hC X hX).exec (hC X hX).code hdg rfl (h3 X hX g1 g2 g3 g4 H locs L hR hS hL)⟩
theorem V_i2b {x : Int32} (hC : vPx P cc nL own ret d) (hdg : decode cc pc = .ok (.i2b, 1))  (kk : V P emb σ (pc + 1) ls (.int x.toInt8.toInt32 :: st) t) : V P emb σ pc ls (.int x :: st) t := by
  intro r hr
  obtain ⟨h1, h2, h3⟩ := kk r hr
  exact ⟨h1, h2, fun X hX g1 g2 g3 g4 H locs L hR hS hL => lv_i2b (hC X hX).exec (hC X hX).code hdg rfl (h3 X hX g1 g2 g3 g4 H locs L hR hS hL)⟩
theorem V_i2s {x : Int32} (hC : vPx P cc nL own ret d) (hdg : decode cc pc = .ok (.i2s, 1))  (kk : V P emb σ (pc + 1) ls (.int x.toInt16.toInt32 :: st) t) : V P emb σ pc ls (.int x :: st) t := by
  intro r hr
  obtain ⟨h1, h2, h3⟩ := kk r hr
  exact ⟨h1, h2, fun X hX g1 g2 g3 g4 H locs L hR hS hL => lv_i2s (hC X hX).exec (hC X hX).code hdg rfl (h3 X hX g1 g2 g3 g4 H locs L hR hS hL)⟩
theorem V_i2c {x : Int32} (hC : vPx P cc nL own ret d) (hdg : decode cc pc = .ok (.i2c, 1))  (kk : V P emb σ (pc + 1) ls (.int (x.toUInt32 % 65536).toInt32 :: st) t) : V P emb σ pc ls (.int x :: st) t := by
  intro r hr
  obtain ⟨h1, h2, h3⟩ := kk r hr
  exact ⟨h1, h2, fun X hX g1 g2 g3 g4 H locs L hR hS hL => lv_i2c (hC X hX).exec (hC X hX).code hdg rfl (h3 X hX g1 g2 g3 g4 H locs L hR hS hL)⟩
theorem V_dup {v : Value} (hC : vPx P cc nL own ret d) (hdg : decode cc pc = .ok (.dup, 1)) (hv : v.category = 1) (kk : V P emb σ (pc + 1) ls (v :: v :: st) t) : V P emb σ pc ls (v :: st) t := by
  intro r hr
  obtain ⟨h1, h2, h3⟩ := kk r hr
  exact ⟨h1, h2, fun X hX g1 g2 g3 g4 H locs L hR hS hL => lv_dup (hC X hX).exec (hC X hX).code hdg ((rv_cat _ _).trans hv) (h3 X hX g1 g2 g3 g4 H locs L hR hS hL)⟩
theorem V_pop {v : Value} (hC : vPx P cc nL own ret d) (hdg : decode cc pc = .ok (.pop, 1)) (hv : v.category = 1) (kk : V P emb σ (pc + 1) ls (st) t) : V P emb σ pc ls (v :: st) t := by
  intro r hr
  obtain ⟨h1, h2, h3⟩ := kk r hr
  exact ⟨h1, h2, fun X hX g1 g2 g3 g4 H locs L hR hS hL => lv_pop (hC X hX).exec (hC X hX).code hdg ((rv_cat _ _).trans hv) (h3 X hX g1 g2 g3 g4 H locs L hR hS hL)⟩
theorem V_dup2 {v w : Value} (hC : vPx P cc nL own ret d) (hdg : decode cc pc = .ok (.dup2, 1)) (hv : v.category = 1) (hw : w.category = 1) (kk : V P emb σ (pc + 1) ls (v :: w :: v :: w :: st) t) : V P emb σ pc ls (v :: w :: st) t := by
  intro r hr
  obtain ⟨h1, h2, h3⟩ := kk r hr
  exact ⟨h1, h2, fun X hX g1 g2 g3 g4 H locs L hR hS hL => lv_dup2_11 (hC X hX).exec (hC X hX).code hdg ((rv_cat _ _).trans hv) ((rv_cat _ _).trans hw) (h3 X hX g1 g2 g3 g4 H locs L hR hS hL)⟩
theorem V_dup2L {v : Value} (hC : vPx P cc nL own ret d) (hdg : decode cc pc = .ok (.dup2, 1)) (hv : v.category = 2) (kk : V P emb σ (pc + 1) ls (v :: v :: st) t) : V P emb σ pc ls (v :: st) t := by
  intro r hr
  obtain ⟨h1, h2, h3⟩ := kk r hr
  exact ⟨h1, h2, fun X hX g1 g2 g3 g4 H locs L hR hS hL => lv_dup2_2 (hC X hX).exec (hC X hX).code hdg ((rv_cat _ _).trans hv) (h3 X hX g1 g2 g3 g4 H locs L hR hS hL)⟩
theorem V_dup_x1 {v w : Value} (hC : vPx P cc nL own ret d) (hdg : decode cc pc = .ok (.dup_x1, 1)) (hv : v.category = 1) (hw : w.category = 1) (kk : V P emb σ (pc + 1) ls (v :: w :: v :: st) t) : V P emb σ pc ls (v :: w :: st) t := by
  intro r hr
  obtain ⟨h1, h2, h3⟩ := kk r hr
  exact ⟨h1, h2, fun X hX g1 g2 g3 g4 H locs L hR hS hL => lv_dup_x1 (hC X hX).exec (hC X hX).code hdg ((rv_cat _ _).trans hv) ((rv_cat _ _).trans hw) (h3 X hX g1 g2 g3 g4 H locs L hR hS hL)⟩
theorem V_goto {off : Int} {tgt : Nat} (hC : vPx P cc nL own ret d) (hdg : decode cc pc = .ok (.goto off, 3)) (ht : (pc : Int) + off = (tgt : Int)) (kk : V P emb σ tgt ls st t) : V P emb σ pc ls st t := by
  intro r hr
  obtain ⟨h1, h2, h3⟩ := kk r hr
  exact ⟨h1, h2, fun X hX g1 g2 g3 g4 H locs L hR hS hL => lv_goto (hC X hX).exec (hC X hX).code hdg ht (h3 X hX g1 g2 g3 g4 H locs L hR hS hL)⟩
theorem V_icmp_eq {x y : Int32} {off : Int} {tgt : Nat} {t1 t2 : Option α} (hC : vPx P cc nL own ret d) (hdg : decode cc pc = .ok (.if_icmp .eq off, 3)) (ht : (pc : Int) + off = (tgt : Int)) (kt : V P emb σ tgt ls st t1) (kf : V P emb σ (pc + 3) ls st t2) : V P emb σ pc ls (.int y :: .int x :: st) (if x = y then t1 else t2) := by
  intro r hr
  by_cases hc : x = y
  · rw [if_pos hc] at hr
    obtain ⟨h1, h2, h3⟩ := kt r hr
    exact ⟨h1, h2, fun X hX g1 g2 g3 g4 H locs L hR hS hL => lv_icmp_eq (hC X hX).exec (hC X hX).code hdg ht (fun _ => h3 X hX g1 g2 g3 g4 H locs L hR hS hL) (fun q => absurd hc q)⟩
  · rw [if_neg hc] at hr
    obtain ⟨h1, h2, h3⟩ := kf r hr
    exact ⟨h1, h2, fun X hX g1 g2 g3 g4 H locs L hR hS hL => lv_icmp_eq (hC X hX).exec (hC X hX).code hdg ht (fun q => absurd q hc) (fun _ => h3 X hX g1 g2 g3 g4 H locs L hR hS hL)⟩
theorem V_if_eq {x : Int32} {off : Int} {tgt : Nat} {t1 t2 : Option α} (hC : vPx P cc nL own ret d) (hdg : decode cc pc = .ok (.ifCond .eq off, 3)) (ht : (pc : Int) + off = (tgt : Int)) (kt : V P emb σ tgt ls st t1) (kf : V P emb σ (pc + 3) ls st t2) : V P emb σ pc ls (.int x :: st) (if x = 0 then t1 else t2) := by
  intro r hr
  by_cases hc : x = 0
  · rw [if_pos hc] at hr
    obtain ⟨h1, h2, h3⟩ := kt r hr
    exact ⟨h1, h2, fun X hX g1 g2 g3 g4 H locs L hR hS hL => lv_if_eq (hC X hX).exec (hC X hX).code hdg ht (fun _ => h3 X hX g1 g2 g3 g4 H locs L hR hS hL) (fun q => absurd hc q)⟩
  · rw [if_neg hc] at hr
    obtain ⟨h1, h2, h3⟩ := kf r hr
    exact ⟨h1, h2, fun X hX g1 g2 g3 g4 H locs L hR hS hL => lv_if_eq (hC X hX).exec (hC X hX).code hdg ht (fun q => absurd q hc) (fun _ => h3 X hX g1 g2 g3 g4 H locs L hR hS hL)⟩
theorem V_icmp_ne {x y : Int32} {off : Int} {tgt : Nat} {t1 t2 : Option α} (hC : vPx P cc nL own ret d) (hdg : decode cc pc = .ok (.if_icmp .ne off, 3)) (ht : (pc : Int) + off = (tgt : Int)) (kt : V P emb σ tgt ls st t1) (kf : V P emb σ (pc + 3) ls st t2) : V P emb σ pc ls (.int y :: .int x :: st) (if ¬ x = y then t1 else t2) := by
  intro r hr
  by_cases hc : ¬ x = y
  · rw [if_pos hc] at hr
    obtain ⟨h1, h2, h3⟩ := kt r hr
    exact ⟨h1, h2, fun X hX g1 g2 g3 g4 H locs L hR hS hL => lv_icmp_ne (hC X hX).exec (hC X hX).code hdg ht (fun _ => h3 X hX g1 g2 g3 g4 H locs L hR hS hL) (fun q => absurd q hc)⟩
  · rw [if_neg hc] at hr
    obtain ⟨h1, h2, h3⟩ := kf r hr
    exact ⟨h1, h2, fun X hX g1 g2 g3 g4 H locs L hR hS hL => lv_icmp_ne (hC X hX).exec (hC X hX).code hdg ht (fun q => absurd q hc) (fun _ => h3 X hX g1 g2 g3 g4 H locs L hR hS hL)⟩
theorem V_if_ne {x : Int32} {off : Int} {tgt : Nat} {t1 t2 : Option α} (hC : vPx P cc nL own ret d) (hdg : decode cc pc = .ok (.ifCond .ne off, 3)) (ht : (pc : Int) + off = (tgt : Int)) (kt : V P emb σ tgt ls st t1) (kf : V P emb σ (pc + 3) ls st t2) : V P emb σ pc ls (.int x :: st) (if ¬ x = 0 then t1 else t2) := by
  intro r hr
  by_cases hc : ¬ x = 0
  · rw [if_pos hc] at hr
    obtain ⟨h1, h2, h3⟩ := kt r hr
    exact ⟨h1, h2, fun X hX g1 g2 g3 g4 H locs L hR hS hL => lv_if_ne (hC X hX).exec (hC X hX).code hdg ht (fun _ => h3 X hX g1 g2 g3 g4 H locs L hR hS hL) (fun q => absurd q hc)⟩
  · rw [if_neg hc] at hr
    obtain ⟨h1, h2, h3⟩ := kf r hr
    exact ⟨h1, h2, fun X hX g1 g2 g3 g4 H locs L hR hS hL => lv_if_ne (hC X hX).exec (hC X hX).code hdg ht (fun q => absurd q hc) (fun _ => h3 X hX g1 g2 g3 g4 H locs L hR hS hL)⟩
theorem V_icmp_lt {x y : Int32} {off : Int} {tgt : Nat} {t1 t2 : Option α} (hC : vPx P cc nL own ret d) (hdg : decode cc pc = .ok (.if_icmp .lt off, 3)) (ht : (pc : Int) + off = (tgt : Int)) (kt : V P emb σ tgt ls st t1) (kf : V P emb σ (pc + 3) ls st t2) : V P emb σ pc ls (.int y :: .int x :: st) (if x < y then t1 else t2) := by
  intro r hr
  by_cases hc : x < y
  · rw [if_pos hc] at hr
    obtain ⟨h1, h2, h3⟩ := kt r hr
    exact ⟨h1, h2, fun X hX g1 g2 g3 g4 H locs L hR hS hL => lv_icmp_lt (hC X hX).exec (hC X hX).code hdg ht (fun _ => h3 X hX g1 g2 g3 g4 H locs L hR hS hL) (fun q => absurd hc q)⟩
  · rw [if_neg hc] at hr
    obtain ⟨h1, h2, h3⟩ := kf r hr
    exact ⟨h1, h2, fun X hX g1 g2 g3 g4 H locs L hR hS hL => lv_icmp_lt (hC X hX).exec (hC X hX).code hdg ht (fun q => absurd q hc) (fun _ => h3 X hX g1 g2 g3 g4 H locs L hR hS hL)⟩
theorem V_if_lt {x : Int32} {off : Int} {tgt : Nat} {t1 t2 : Option α} (hC : vPx P cc nL own ret d) (hdg : decode cc pc = .ok (.ifCond .lt off, 3)) (ht : (pc : Int) + off = (tgt : Int)) (kt : V P emb σ tgt ls st t1) (kf : V P emb σ (pc + 3) ls st t2) : V P emb σ pc ls (.int x :: st) (if x < 0 then t1 else t2) := by
  intro r hr
  by_cases hc : x < 0
  · rw [if_pos hc] at hr
    obtain ⟨h1, h2, h3⟩ := kt r hr
    exact ⟨h1, h2, fun X hX g1 g2 g3 g4 H locs L hR hS hL => lv_if_lt (hC X hX).exec (hC X hX).code hdg ht (fun _ => h3 X hX g1 g2 g3 g4 H locs L hR hS hL) (fun q => absurd hc q)⟩
  · rw [if_neg hc] at hr
    obtain ⟨h1, h2, h3⟩ := kf r hr
    exact ⟨h1, h2, fun X hX g1 g2 g3 g4 H locs L hR hS hL => lv_if_lt (hC X hX).exec (hC X hX).code hdg ht (fun q => absurd q hc) (fun _ => h3 X hX g1 g2 g3 g4 H locs L hR hS hL)⟩
theorem V_icmp_ge {x y : Int32} {off : Int} {tgt : Nat} {t1 t2 : Option α} (hC : vPx P cc nL own ret d) (hdg : decode cc pc = .ok (.if_icmp .ge off, 3)) (ht : (pc : Int) + off = (tgt : Int)) (kt : V P emb σ tgt ls st t1) (kf : V P emb σ (pc + 3) ls st t2) : V P emb σ pc ls (.int y :: .int x :: st) (if y ≤ x then t1 else t2) := by
  intro r hr
  by_cases hc : y ≤ x
  · rw [if_pos hc] at hr
    obtain ⟨h1, h2, h3⟩ := kt r hr
    exact ⟨h1, h2, fun X hX g1 g2 g3 g4 H locs L hR hS hL => lv_icmp_ge (hC X hX).exec (hC X hX).code hdg ht (fun _ => h3 X hX g1 g2 g3 g4 H locs L hR hS hL) (fun q => absurd hc q)⟩
  · rw [if_neg hc] at hr
    obtain ⟨h1, h2, h3⟩ := kf r hr
    exact ⟨h1, h2, fun X hX g1 g2 g3 g4 H locs L hR hS hL => lv_icmp_ge (hC X hX).exec (hC X hX).code hdg ht (fun q => absurd q hc) (fun _ => h3 X hX g1 g2 g3 g4 H locs L hR hS hL)⟩
theorem V_if_ge {x : Int32} {off : Int} {tgt : Nat} {t1 t2 : Option α} (hC : vPx P cc nL own ret d) (hdg : decode cc pc = .ok (.ifCond .ge off, 3)) (ht : (pc : Int) + off = (tgt : Int)) (kt : V P emb σ tgt ls st t1) (kf : V P emb σ (pc + 3) ls st t2) : V P emb σ pc ls (.int x :: st) (if 0 ≤ x then t1 else t2) := by
  intro r hr
  by_cases hc : 0 ≤ x
  · rw [if_pos hc] at hr
    obtain ⟨h1, h2, h3⟩ := kt r hr
    exact ⟨h1, h2, fun X hX g1 g2 g3 g4 H locs L hR hS hL => lv_if_ge (hC X hX).exec (hC X hX).code hdg ht (fun _ => h3 X hX g1 g2 g3 g4 H locs L hR hS hL) (fun q => absurd hc q)⟩
  · rw [if_neg hc] at hr
    obtain ⟨h1, h2, h3⟩ := kf r hr
    exact ⟨h1, h2, fun X hX g1 g2 g3 g4 H locs L hR hS hL => lv_if_ge (hC X hX).exec (hC X hX).code hdg ht (fun q => absurd q hc) (fun _ => h3 X hX g1 g2 g3 g4 H locs L hR hS hL)⟩
theorem V_icmp_gt {x y : Int32} {off : Int} {tgt : Nat} {t1 t2 : Option α} (hC : vPx P cc nL own ret d) (hdg : decode cc pc = .ok (.if_icmp .gt off, 3)) (ht : (pc : Int) + off = (tgt : Int)) (kt : V P emb σ tgt ls st t1) (kf : V P emb σ (pc + 3) ls st t2) : V P emb σ pc ls (.int y :: .int x :: st) (if y < x then t1 else t2) := by
  intro r hr
  by_cases hc : y < x
  · rw [if_pos hc] at hr
    obtain ⟨h1, h2, h3⟩ := kt r hr
    exact ⟨h1, h2, fun X hX g1 g2 g3 g4 H locs L hR hS hL => lv_icmp_gt (hC X hX).exec (hC X hX).code hdg ht (fun _ => h3 X hX g1 g2 g3 g4 H locs L hR hS hL) (fun q => absurd hc q)⟩
  · rw [if_neg hc] at hr
    obtain ⟨h1, h2, h3⟩ := kf r hr
    exact ⟨h1, h2, fun X hX g1 g2 g3 g4 H locs L hR hS hL => lv_icmp_gt (hC X hX).exec (hC X hX).code hdg ht (fun q => absurd q hc) (fun _ => h3 X hX g1 g2 g3 g4 H locs L hR hS hL)⟩
theorem V_if_gt {x : Int32} {off : Int} {tgt : Nat} {t1 t2 : Option α} (hC : vPx P cc nL own ret d) (hdg : decode cc pc = .ok (.ifCond .gt off, 3)) (ht : (pc : Int) + off = (tgt : Int)) (kt : V P emb σ tgt ls st t1) (kf : V P emb σ (pc + 3) ls st t2) : V P emb σ pc ls (.int x :: st) (if 0 < x then t1 else t2) := by
  intro r hr
  by_cases hc : 0 < x
  · rw [if_pos hc] at hr
    obtain ⟨h1, h2, h3⟩ := kt r hr
    exact ⟨h1, h2, fun X hX g1 g2 g3 g4 H locs L hR hS hL => lv_if_gt (hC X hX).exec (hC X hX).code hdg ht (fun _ => h3 X hX g1 g2 g3 g4 H locs L hR hS hL) (fun q => absurd hc q)⟩
  · rw [if_neg hc] at hr
    obtain ⟨h1, h2, h3⟩ := kf r hr
    exact ⟨h1, h2, fun X hX g1 g2 g3 g4 H locs L hR hS hL => lv_if_gt (hC X hX).exec (hC X hX).code hdg ht (fun q => absurd q hc) (fun _ => h3 X hX g1 g2 g3 g4 H locs L hR hS hL)⟩
theorem V_icmp_le {x y : Int32} {off : Int} {tgt : Nat} {t1 t2 : Option α} (hC : vPx P cc nL own ret d) (hdg : decode cc pc = .ok (.if_icmp .le off, 3)) (ht : (pc : Int) + off = (tgt : Int)) (kt : V P emb σ tgt ls st t1) (kf : V P emb σ (pc + 3) ls st t2) : V P emb σ pc ls (.int y :: .int x :: st) (if x ≤ y then t1 else t2) := by
  intro r hr
  by_cases hc : x ≤ y
  · rw [if_pos hc] at hr
    obtain ⟨h1, h2, h3⟩ := kt r hr
    exact ⟨h1, h2, fun X hX g1 g2 g3 g4 H locs L hR hS hL => lv_icmp_le (hC X hX).exec (hC X hX).code hdg ht (fun _ => h3 X hX g1 g2 g3 g4 H locs L hR hS hL) (fun q => absurd hc q)⟩
  · rw [if_neg hc] at hr
    obtain ⟨h1, h2, h3⟩ := kf r hr
    exact ⟨h1, h2, fun X hX g1 g2 g3 g4 H locs L hR hS hL => lv_icmp_le (hC X hX).exec (hC X hX).code hdg ht (fun q => absurd q hc) (fun _ => h3 X hX g1 g2 g3 g4 H locs L hR hS hL)⟩
theorem V_if_le {x : Int32} {off : Int} {tgt : Nat} {t1 t2 : Option α} (hC : vPx P cc nL own ret d) (hdg : decode cc pc = .ok (.ifCond .le off, 3)) (ht : (pc : Int) + off = (tgt : Int)) (kt : V P emb σ tgt ls st t1) (kf : V P emb σ (pc + 3) ls st t2) : V P emb σ pc ls (.int x :: st) (if x ≤ 0 then t1 else t2) := by
  intro r hr
  by_cases hc : x ≤ 0
  · rw [if_pos hc] at hr
    obtain ⟨h1, h2, h3⟩ := kt r hr
    exact ⟨h1, h2, fun X hX g1 g2 g3 g4 H locs L hR hS hL => lv_if_le (hC X hX).exec (hC X hX).code hdg ht (fun _ => h3 X hX g1 g2 g3 g4 H locs L hR hS hL) (fun q => absurd hc q)⟩
  · rw [if_neg hc] at hr
    obtain ⟨h1, h2, h3⟩ := kf r hr
    exact ⟨h1, h2, fun X hX g1 g2 g3 g4 H locs L hR hS hL => lv_if_le (hC X hX).exec (hC X hX).code hdg ht (fun q => absurd q hc) (fun _ => h3 X hX g1 g2 g3 g4 H locs L hR hS hL)⟩
theorem V_ifnonnull {x : Nat} {off : Int} {tgt : Nat} (hC : vPx P cc nL own ret d) (hdg : decode cc pc = .ok (.ifnonnull off, 3)) (ht : (pc : Int) + off = (tgt : Int)) (kk : V P emb σ tgt ls st t) : V P emb σ pc ls (.ref x :: st) t := by
  intro r hr
  obtain ⟨h1, h2, h3⟩ := kk r hr
  exact ⟨h1, h2, fun X hX g1 g2 g3 g4 H locs L hR hS hL => lv_ifnonnull (hC X hX).exec (hC X hX).code hdg ht (h3 X hX g1 g2 g3 g4 H locs L hR hS hL)⟩
theorem V_ifnull {x : Nat} {off : Int} (hC : vPx P cc nL own ret d) (hdg : decode cc pc = .ok (.ifnull off, 3)) (kk : V P emb σ (pc + 3) ls st t) : V P emb σ pc ls (.ref x :: st) t := by
  intro r hr
  obtain ⟨h1, h2, h3⟩ := kk r hr
  exact ⟨h1, h2, fun X hX g1 g2 g3 g4 H locs L hR hS hL => lv_ifnull (hC X hX).exec (hC X hX).code hdg (h3 X hX g1 g2 g3 g4 H locs L hR hS hL)⟩
theorem V_ifnullN {off : Int} {tgt : Nat} (hC : vPx P cc nL own ret d) (hdg : decode cc pc = .ok (.ifnull off, 3)) (ht : (pc : Int) + off = (tgt : Int)) (kk : V P emb σ tgt ls st t) : V P emb σ pc ls (.null :: st) t := by
  intro r hr
  obtain ⟨h1, h2, h3⟩ := kk r hr
  exact ⟨h1, h2, fun X hX g1 g2 g3 g4 H locs L hR hS hL => lv_ifnullN (hC X hX).exec (hC X hX).code hdg ht (h3 X hX g1 g2 g3 g4 H locs L hR hS hL)⟩
theorem V_ifnonnullN {off : Int} (hC : vPx P cc nL own ret d) (hdg : decode cc pc = .ok (.ifnonnull off, 3)) (kk : V P emb σ (pc + 3) ls st t) : V P emb σ pc ls (.null :: st) t := by
  intro r hr
  obtain ⟨h1, h2, h3⟩ := kk r hr
  exact ⟨h1, h2, fun X hX g1 g2 g3 g4 H locs L hR hS hL => lv_ifnonnullN (hC X hX).exec (hC X hX).code hdg (h3 X hX g1 g2 g3 g4 H locs L hR hS hL)⟩
end VROW
