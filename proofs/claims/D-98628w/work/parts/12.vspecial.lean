/-! ROWS: text constants, statics, array classes told apart -/
set_option maxRecDepth 100000
def ckb {α : Type} (a : Nat) (t : Option α) : Option α := if SB + 10 ≤ a ∧ a < SB + 16 then t else none
def ckbi {α : Type} (a : Nat) (i : Int32) (t : Option α) : Option α := if (SB + 10 ≤ a ∧ a < SB + 16) ∧ ¬ (i < 0 ∨ sLn.getD (a - (SB + 10)) 0 ≤ i.toNatClampNeg) then t else none
theorem V_cks {α : Type} {P : vX → Prop} {emb : α → vRes} {σ : vMem} {pc : Nat} {ls : List (Option Value)} {st : List Value} {a : Nat} {t : Option α} (k : SB ≤ a ∧ a < SB + 6 → V P emb σ pc ls st t) : V P emb σ pc ls st (cks a t) := by
  intro r hr
  unfold cks at hr
  by_cases h : SB ≤ a ∧ a < SB + 6
  · rw [if_pos h] at hr; exact k h r hr
  · rw [if_neg h] at hr; cases hr
section VSP
variable {α : Type} {P : vX → Prop} {emb : α → vRes} {cc : ByteArray} {nL : Nat} {own : String} {ret : Option FieldType} {d : Nat} {σ : vMem} {pc : Nat} {ls : List (Option Value)} {st rest : List Value} {t : Option α}
theorem V_ldcS {index : Nat} (i : Nat) (hi : i < 6) (hC : vPx P cc nL "NobodyBeenAftModel" ret d) (hdg : decode cc pc = .ok (.ldc index, 2)) (hx : sIx.getD i 0 = index) (kk : V P emb σ (pc + 2) ls (.ref (SB + i) :: st) t) : V P emb σ pc ls st t := by
  subst hx
  intro r hr
  obtain ⟨h1, h2, h3⟩ := kk r hr
  refine ⟨h1, h2, fun X hX g1 g2 g3 g4 H locs L hR hS hL => ?_⟩
  have k9 := h3 X hX g1 g2 g3 g4 H locs L hR hS hL
  have e9 : rv X.E (.ref (SB + i)) = .ref (X.E.2 i) := by show Value.ref (adr X.E (SB + i)) = _; rw [adr_s]
  rw [List.map_cons, e9] at k9
  exact va_ldcS (hC X hX).exec (hC X hX).code (hC X hX).hown ((hC X hX).kn.2.2.2.2.1 i hi) hdg k9
theorem V_ldcwS {index : Nat} (i : Nat) (hi : i < 6) (hC : vPx P cc nL "NobodyBeenAftModel" ret d) (hdg : decode cc pc = .ok (.ldc_w index, 3)) (hx : sIx.getD i 0 = index) (kk : V P emb σ (pc + 3) ls (.ref (SB + i) :: st) t) : V P emb σ pc ls st t := by
  subst hx
  intro r hr
  obtain ⟨h1, h2, h3⟩ := kk r hr
  refine ⟨h1, h2, fun X hX g1 g2 g3 g4 H locs L hR hS hL => ?_⟩
  have k9 := h3 X hX g1 g2 g3 g4 H locs L hR hS hL
  have e9 : rv X.E (.ref (SB + i)) = .ref (X.E.2 i) := by show Value.ref (adr X.E (SB + i)) = _; rw [adr_s]
  rw [List.map_cons, e9] at k9
  have hZ := (hC X hX).kn.2.2.2.2.1 i hi
  intro T hT XS
  obtain ⟨t9, a1, b1⟩ := k9 T hT XS
  exact ⟨t9, XS.ldcStringW (hC X hX).exec (hC X hX).hown (text := sTx.getD i "") (a := X.E.2 i) hZ.1 hZ.2 (g := F0 X.m pc L (st.map (rv X.E))) rfl (by rw [(hC X hX).code]; exact hdg) t9 a1, b1⟩
theorem V_sval {a index : Nat} (hC : vPx P cc nL own ret d) (hdg : decode cc pc = .ok (.getfield index, 3)) (hq : Cond.fieldLink own index "java/lang/String" "value" "[B" ∈ lw_all) (kk : V P emb σ (pc + 3) ls (.ref (a + 10) :: st) t) : V P emb σ pc ls (.ref a :: st) (cks a t) := by
  intro r hr
  unfold cks at hr
  by_cases hh : SB ≤ a ∧ a < SB + 6
  · rw [if_pos hh] at hr
    obtain ⟨i, rfl⟩ : ∃ i, a = SB + i := ⟨a - SB, by omega⟩
    obtain ⟨h1, h2, h3⟩ := kk r hr
    refine ⟨h1, h2, fun X hX g1 g2 g3 g4 H locs L hR hS hL => ?_⟩
    have k9 := h3 X hX g1 g2 g3 g4 H locs L hR hS hL
    have e9 : rv X.E (.ref (SB + i + 10)) = .ref (X.E.2 (10 + i)) := by show Value.ref (adr X.E (SB + i + 10)) = _; rw [show SB + i + 10 = SB + (10 + i) by omega, adr_s]
    have e8 : rv X.E (.ref (SB + i)) = .ref (X.E.2 i) := by show Value.ref (adr X.E (SB + i)) = _; rw [adr_s]
    rw [List.map_cons, e9] at k9
    rw [List.map_cons, e8]
    exact vk_getf (hC X hX).exec (hC X hX).code ((hC X hX).kn.2.2.2.1.1 i (by omega)).2.2.1 hS (hC X hX).hown ((hC X hX).ts _ hq) (fun _ h => h) hdg k9
  · rw [if_neg hh] at hr
    cases hr
theorem V_scod {a index : Nat} (hC : vPx P cc nL own ret d) (hdg : decode cc pc = .ok (.getfield index, 3)) (hq : Cond.fieldLink own index "java/lang/String" "coder" "B" ∈ lw_all) (kk : V P emb σ (pc + 3) ls (.int 0 :: st) t) : V P emb σ pc ls (.ref a :: st) (cks a t) := by
  intro r hr
  unfold cks at hr
  by_cases hh : SB ≤ a ∧ a < SB + 6
  · rw [if_pos hh] at hr
    obtain ⟨i, rfl⟩ : ∃ i, a = SB + i := ⟨a - SB, by omega⟩
    obtain ⟨h1, h2, h3⟩ := kk r hr
    refine ⟨h1, h2, fun X hX g1 g2 g3 g4 H locs L hR hS hL => ?_⟩
    have k9 := h3 X hX g1 g2 g3 g4 H locs L hR hS hL
    have e8 : rv X.E (.ref (SB + i)) = .ref (X.E.2 i) := by show Value.ref (adr X.E (SB + i)) = _; rw [adr_s]
    rw [List.map_cons, e8]
    exact vk_getf (hC X hX).exec (hC X hX).code ((hC X hX).kn.2.2.2.1.1 i (by omega)).2.1 hS (hC X hX).hown ((hC X hX).ts _ hq) (fun _ h => h) hdg k9
  · rw [if_neg hh] at hr
    cases hr
theorem V_tlen {a : Nat} (hC : vPx P cc nL own ret d) (hdg : decode cc pc = .ok (.arraylength, 1)) (kk : V P emb σ (pc + 1) ls (.int (Int32.ofNat (sLn.getD (a - (SB + 10)) 0)) :: st) t) : V P emb σ pc ls (.ref a :: st) (ckb a t) := by
  intro r hr
  unfold ckb at hr
  by_cases hh : SB + 10 ≤ a ∧ a < SB + 16
  · rw [if_pos hh] at hr
    obtain ⟨i, rfl⟩ : ∃ i, a = SB + (10 + i) := ⟨a - (SB + 10), by omega⟩
    obtain ⟨h1, h2, h3⟩ := kk r hr
    refine ⟨h1, h2, fun X hX g1 g2 g3 g4 H locs L hR hS hL => ?_⟩
    have k9 := h3 X hX g1 g2 g3 g4 H locs L hR hS hL
    have e8 : rv X.E (.ref (SB + (10 + i))) = .ref (X.E.2 (10 + i)) := by show Value.ref (adr X.E (SB + (10 + i))) = _; rw [adr_s]
    rw [List.map_cons, e8]
    refine va_tlen (hC X hX).exec (hC X hX).code ((hC X hX).kn.2.2.2.1.1 i (by omega)).2.2.2 hS ?_ hdg k9
    rw [show SB + (10 + i) - (SB + 10) = i by omega]
  · rw [if_neg hh] at hr
    cases hr
theorem V_tbald {a : Nat} {i : Int32} (hC : vPx P cc nL own ret d) (hdg : decode cc pc = .ok (.baload, 1)) (kk : V P emb σ (pc + 1) ls (.int ((sBy.getD (a - (SB + 10)) []).getD i.toNatClampNeg 0) :: st) t) : V P emb σ pc ls (.int i :: .ref a :: st) (ckbi a i t) := by
  intro r hr
  unfold ckbi at hr
  by_cases hh : (SB + 10 ≤ a ∧ a < SB + 16) ∧ ¬ (i < 0 ∨ sLn.getD (a - (SB + 10)) 0 ≤ i.toNatClampNeg)
  · rw [if_pos hh] at hr
    obtain ⟨hh, hin⟩ := hh
    obtain ⟨j, rfl⟩ : ∃ j, a = SB + (10 + j) := ⟨a - (SB + 10), by omega⟩
    rw [show SB + (10 + j) - (SB + 10) = j by omega] at hin kk
    obtain ⟨h1, h2, h3⟩ := kk r hr
    refine ⟨h1, h2, fun X hX g1 g2 g3 g4 H locs L hR hS hL => ?_⟩
    have k9 := h3 X hX g1 g2 g3 g4 H locs L hR hS hL
    have e8 : rv X.E (.ref (SB + (10 + j))) = .ref (X.E.2 (10 + j)) := by show Value.ref (adr X.E (SB + (10 + j))) = _; rw [adr_s]
    rw [List.map_cons, List.map_cons, e8]
    exact va_tb (hC X hX).exec (hC X hX).code ((hC X hX).kn.2.2.2.1.1 j (by omega)).2.2.2 hS hin rfl hdg k9
  · rw [if_neg hh] at hr
    cases hr
theorem V_gsCompact {index : Nat} (hC : vPx P cc nL own ret d) (hdg : decode cc pc = .ok (.getstatic index, 3)) (hq : Cond.fieldLink own index "java/lang/String" "COMPACT_STRINGS" "Z" ∈ lw_all) (kk : V P emb σ (pc + 3) ls (.int 1 :: st) t) : V P emb σ pc ls st t := by
  intro r hr
  obtain ⟨h1, h2, h3⟩ := kk r hr
  exact ⟨h1, h2, fun X hX g1 g2 g3 g4 H locs L hR hS hL => va_gets (hC X hX).exec (hC X hX).code (hC X hX).kn.2.2.2.2.2.1 hS (hC X hX).hown ((hC X hX).ts _ hq) (fun _ h => h) hdg (h3 X hX g1 g2 g3 g4 H locs L hR hS hL)⟩
/-- a method of this kind pops it at once: what it is doesn't matter -/
theorem V_gsSioobe {index : Nat} (hC : vPx P cc nL own ret d) (hdg : decode cc pc = .ok (.getstatic index, 3)) (hq : Cond.fieldLink own index "jdk/internal/util/Preconditions" "SIOOBE_FORMATTER" "Ljava/util/function/BiFunction;" ∈ lw_all) (kk : ∀ o : Option Nat, V P emb σ (pc + 3) ls (va_rf o :: st) t) : V P emb σ pc ls st t := by
  intro r hr
  obtain ⟨h1, h2, -⟩ := kk none r hr
  refine ⟨h1, h2, fun X hX g1 g2 g3 g4 H locs L hR hS hL => ?_⟩
  rcases (hC X hX).kn.2.2.2.2.2.2.1 with hZ | hZ
  · obtain ⟨-, -, h3⟩ := kk none r hr
    exact va_gets (hC X hX).exec (hC X hX).code hZ hS (hC X hX).hown ((hC X hX).ts _ hq) (fun _ h => h) hdg (h3 X hX g1 g2 g3 g4 H locs L hR hS hL)
  · obtain ⟨-, -, h3⟩ := kk (some (SB + 30)) r hr
    have k9 := h3 X hX g1 g2 g3 g4 H locs L hR hS hL
    have e9 : rv X.E (va_rf (some (SB + 30))) = .ref (X.E.2 30) := by show Value.ref (adr X.E (SB + 30)) = _; rw [adr_s]
    rw [List.map_cons, e9] at k9
    exact va_gets (hC X hX).exec (hC X hX).code hZ hS (hC X hX).hown ((hC X hX).ts _ hq) (fun _ h => h) hdg k9
theorem vArrN {X : vX} {k t0 : Nat} {ty : FieldType} (hty : ∀ C, ty ≠ .object C) (hK : vKn X.E X.D X.dA X.s) (ht : (vtys X.dA)[t0]? = some (X.dA k, ty)) : X.s.vm.findClass ("[" ++ ty.toString) = some (X.dA k) := by
  have h := (hK.1.2 t0 _ ht).2
  cases ty with
  | object C => exact absurd rfl (hty C)
  | _ => exact h
theorem V_castA {a k t0 index : Nat} {ty : FieldType} {nm : String} (hC : vPx P cc nL own ret d) (hdg : decode cc pc = .ok (.checkcast index, 3)) (hq : Cond.classLink own index nm ∈ lw_all) (hk1 : 100 ≤ k) (ht : ∀ dA : Nat → ClassId, (vtys dA)[t0]? = some (dA k, ty)) (hty : ∀ C, ty ≠ .object C) (hnm : "[" ++ ty.toString = nm) (kk : V P emb σ (pc + 3) ls (.ref a :: st) t) : V P emb σ pc ls (.ref a :: st) (cko σ a [k] t) := by
  refine V_cko (fun hm => ?_)
  have hk : knd σ a = k := List.mem_singleton.mp hm
  intro r hr
  obtain ⟨h1, h2, h3⟩ := kk r hr
  refine ⟨h1, h2, fun X hX g1 g2 g3 g4 H locs L hR hS hL => ?_⟩
  have h0 : knd σ a ≠ 0 := by rw [hk]; omega
  have he : (wl X.E X.dA σ)[a]? = some (adr X.E a, .inl (X.dA k, arrc X.E σ a)) := by
    rw [wl_get (hR.lt h0), hR.adr h0]
    unfold ent
    rw [hk, if_neg (by omega)]
  exact va_castA (hC X hX).exec (hC X hX).code (hC X hX).hown ((hC X hX).ts _ hq) hR.P a he (by rw [← hnm]; exact vArrN hty (hC X hX).kn (ht _)) hdg (h3 X hX g1 g2 g3 g4 H locs L hR hS hL)
theorem V_instA {a k t0 index : Nat} {ty : FieldType} {nm : String} (hC : vPx P cc nL own ret d) (hdg : decode cc pc = .ok (.instanceof index, 3)) (hq : Cond.classLink own index nm ∈ lw_all) (hk1 : 100 ≤ k) (ht : ∀ dA : Nat → ClassId, (vtys dA)[t0]? = some (dA k, ty)) (hty : ∀ C, ty ≠ .object C) (hnm : "[" ++ ty.toString = nm) (hk : knd σ a = k) (kk : V P emb σ (pc + 3) ls (.int 1 :: st) t) : V P emb σ pc ls (.ref a :: st) t := by
  intro r hr
  obtain ⟨h1, h2, h3⟩ := kk r hr
  refine ⟨h1, h2, fun X hX g1 g2 g3 g4 H locs L hR hS hL => ?_⟩
  have h0 : knd σ a ≠ 0 := by rw [hk]; omega
  have he := hR.P a _ (wl_get (hR.lt h0))
  unfold ent at he
  rw [hk, if_neg (by omega), ← hR.adr h0] at he
  have he : H[adr X.E a]? = some (vp_cell (X.dA k) (arrc X.E σ a)) := he
  refine va_instE (hC X hX).exec (hC X hX).code (hC X hX).hown ((hC X hX).ts _ hq) ⟨_, he, ?_, ?_⟩ hdg (h3 X hX g1 g2 g3 g4 H locs L hR hS hL)
  · obtain ⟨n, f | f | f | f | f⟩ := arrc X.E σ a <;> rfl
  · rw [← hnm]
    have e1 : (vp_cell (X.dA k) (arrc X.E σ a)).cls = X.dA k := by obtain ⟨n, f | f | f | f | f⟩ := arrc X.E σ a <;> rfl
    rw [e1]
    exact vArrN hty (hC X hX).kn (ht _)
theorem V_instN {a k t0 index : Nat} {ty : FieldType} {nm cn : String} (hC : vPx P cc nL own ret d) (hdg : decode cc pc = .ok (.instanceof index, 3)) (hq : Cond.classLink own index nm ∈ lw_all) (hk1 : 100 ≤ k) (ht : ∀ dA : Nat → ClassId, (vtys dA)[t0]? = some (dA k, ty)) (hty : ∀ C, ty ≠ .object C) (hcn : "[" ++ ty.toString = cn) (hN : ∀ X, P X → va_Nc cn nm X.s) (hk : knd σ a = k) (kk : V P emb σ (pc + 3) ls (.int 0 :: st) t) : V P emb σ pc ls (.ref a :: st) t := by
  intro r hr
  obtain ⟨h1, h2, h3⟩ := kk r hr
  refine ⟨h1, h2, fun X hX g1 g2 g3 g4 H locs L hR hS hL => ?_⟩
  have h0 : knd σ a ≠ 0 := by rw [hk]; omega
  have he := hR.P a _ (wl_get (hR.lt h0))
  unfold ent at he
  rw [hk, if_neg (by omega), ← hR.adr h0] at he
  have he : H[adr X.E a]? = some (vp_cell (X.dA k) (arrc X.E σ a)) := he
  refine va_instNo (C := cn) (hC X hX).exec (hC X hX).code (hC X hX).hown ((hC X hX).ts _ hq) (hN X hX) ⟨_, he, ?_, ?_⟩ hdg (h3 X hX g1 g2 g3 g4 H locs L hR hS hL)
  · obtain ⟨n, f | f | f | f | f⟩ := arrc X.E σ a <;> rfl
  · rw [← hcn]
    have e1 : (vp_cell (X.dA k) (arrc X.E σ a)).cls = X.dA k := by obtain ⟨n, f | f | f | f | f⟩ := arrc X.E σ a <;> rfl
    rw [e1]
    exact vArrN hty (hC X hX).kn (ht _)
/-- s instanceof byte[], of a byte, short or int array -/
theorem V_instB {a index : Nat} (hC : vPx P cc nL own ret d) (hdg : decode cc pc = .ok (.instanceof index, 3)) (hq : Cond.classLink own index "[B" ∈ lw_all) (kk : V P emb σ (pc + 3) ls (.int (if knd σ a = 102 then 1 else 0) :: st) t) : V P emb σ pc ls (.ref a :: st) (cko σ a [102, 104, 105] t) := by
  refine V_cko (fun hm => ?_)
  simp only [List.mem_cons, List.not_mem_nil, or_false] at hm
  rcases hm with hk | hk | hk
  · rw [hk, if_pos rfl] at kk
    exact V_instA (t0 := 1) (ty := .byte) hC hdg hq (by decide) (fun _ => rfl) (fun _ h => by cases h) (by decide) hk kk
  · rw [hk, if_neg (by decide)] at kk
    exact V_instN (t0 := 3) (ty := .short) (cn := "[S") hC hdg hq (by decide) (fun _ => rfl) (fun _ h => by cases h) (by decide) (fun X hX => (hC X hX).kn.2.2.2.2.2.2.2.2.2.1) hk kk
  · rw [hk, if_neg (by decide)] at kk
    exact V_instN (t0 := 4) (ty := .int) (cn := "[I") hC hdg hq (by decide) (fun _ => rfl) (fun _ h => by cases h) (by decide) (fun X hX => (hC X hX).kn.2.2.2.2.2.2.2.2.2.2.1) hk kk
theorem V_instS {a index : Nat} (hC : vPx P cc nL own ret d) (hdg : decode cc pc = .ok (.instanceof index, 3)) (hq : Cond.classLink own index "[S" ∈ lw_all) (kk : V P emb σ (pc + 3) ls (.int (if knd σ a = 104 then 1 else 0) :: st) t) : V P emb σ pc ls (.ref a :: st) (cko σ a [104, 105] t) := by
  refine V_cko (fun hm => ?_)
  simp only [List.mem_cons, List.not_mem_nil, or_false] at hm
  rcases hm with hk | hk
  · rw [hk, if_pos rfl] at kk
    exact V_instA (t0 := 3) (ty := .short) hC hdg hq (by decide) (fun _ => rfl) (fun _ h => by cases h) (by decide) hk kk
  · rw [hk, if_neg (by decide)] at kk
    exact V_instN (t0 := 4) (ty := .int) (cn := "[I") hC hdg hq (by decide) (fun _ => rfl) (fun _ h => by cases h) (by decide) (fun X hX => (hC X hX).kn.2.2.2.2.2.2.2.2.2.2.2) hk kk
end VSP
