/-! THROWN OBJECTS: the judgement of a throw, contracts of methods that may throw or have handlers, their calls -/
set_option maxRecDepth 100000
/-- the end of a method that throws: r says what -/
def vXc (E : vEnv) (D : va_G) (dA : Nat → ClassId) (r : vRes) : Addr → String → State → State → Prop := fun q _ st t => ∃ a σ', r = .inr (a, σ') ∧ q = adr E a ∧ vRel E D dA σ' t.heap ∧ va_F (vA E) st t
/-- y, called with As over σ, ends with r: returns or throws -/
def vOx (l : Launch) (y : MethodName) (ws : List Cond) (d : Nat) (As : List Value) (σ : vMem) (r : vRes) : Prop :=
  mn σ ≤ mn (rmm r) ∧ mz σ ≤ mz (rmm r) ∧ ∀ E D dA, vx_Met l y ws (vRoom d (mn (rmm r) - mn σ) (mz (rmm r) - mz σ)) (va_Pc (As.map (rv E)) (vI E D dA σ)) (vQc E D dA r) (vXc E D dA r) (mn (rmm r) - mn σ) (mz (rmm r) - mz σ) (vA E)
/-- a walk of such a method; hh: its handlers -/
def vMX (l : Launch) (y : MethodName) (cc : ByteArray) (nL : Nat) (ret : Option FieldType) (hh : List (Nat × Nat × Nat × Nat)) (d n0 s0 : Nat) : vX → Prop := fun X =>
  vCx X cc nL y.cls ret d ∧ X.l = l ∧ X.meth.name = y.name ∧ X.n0 = n0 ∧ X.s0 = s0 ∧ X.c.exceptionTable.toList = tableOf hh ∧ X.Q = fun r => vx_MQ X.below (vQc X.E X.D X.dA r) (vXc X.E X.D X.dA r) X.args X.s (mn (rmm r) - n0) (mz (rmm r) - s0) (vA X.E)
theorem vMX_cx {l : Launch} {y : MethodName} {cc : ByteArray} {nL : Nat} {ret : Option FieldType} {hh : List (Nat × Nat × Nat × Nat)} {d n0 s0 : Nat} : vPx (vMX l y cc nL ret hh d n0 s0) cc nL y.cls ret d := fun _ h => h.1
theorem vMX_l {l : Launch} {y : MethodName} {cc : ByteArray} {nL : Nat} {ret : Option FieldType} {hh : List (Nat × Nat × Nat × Nat)} {d n0 s0 : Nat} : ∀ X, vMX l y cc nL ret hh d n0 s0 X → X.l = l := fun _ h => h.2.1
theorem vMX_n {l : Launch} {y : MethodName} {cc : ByteArray} {nL : Nat} {ret : Option FieldType} {hh : List (Nat × Nat × Nat × Nat)} {d n0 s0 : Nat} : ∀ X, vMX l y cc nL ret hh d n0 s0 X → X.meth.name = y.name := fun _ h => h.2.2.1
theorem vMX_t {l : Launch} {y : MethodName} {cc : ByteArray} {nL : Nat} {ret : Option FieldType} {hh : List (Nat × Nat × Nat × Nat)} {d n0 s0 : Nat} : ∀ X, vMX l y cc nL ret hh d n0 s0 X → X.c.exceptionTable.toList = tableOf hh := fun _ h => h.2.2.2.2.2.1
/-- what such a method answers, by its type -/
abbrev xI : (Int32 × vMem) ⊕ (Nat × vMem) → vRes
  | .inl p => .inl (some (.int p.1), p.2)
  | .inr p => .inr p
abbrev xL : (Int64 × vMem) ⊕ (Nat × vMem) → vRes
  | .inl p => .inl (some (.long p.1), p.2)
  | .inr p => .inr p
abbrev xA : (Nat × vMem) ⊕ (Nat × vMem) → vRes
  | .inl p => .inl (some (.ref p.1), p.2)
  | .inr p => .inr p
abbrev xV : vMem ⊕ (Nat × vMem) → vRes
  | .inl p => .inl (none, p)
  | .inr p => .inr p
/-- .. of one that never throws -/
abbrev nxI : Int32 × vMem → vRes := fun p => .inl (some (.int p.1), p.2)
abbrev nxV : vMem → vRes := fun p => .inl (none, p)
def bxv {β : Type} (o : Option (vMem ⊕ (Nat × vMem))) (f : vMem → Option β) (h : Nat → vMem → Option β) : Option β := match o with
  | none => none
  | some (.inl p) => f p
  | some (.inr p) => h p.1 p.2
/-- thrown: the object at a -/
def VT {α : Type} (P : vX → Prop) (emb : α → vRes) (σ : vMem) (pc : Nat) (ls : List (Option Value)) (a : Nat) (t : Option α) : Prop :=
  ∀ r, t = some r → mn σ ≤ mn (rmm (emb r)) ∧ mz σ ≤ mz (rmm (emb r)) ∧ ∀ X, P X → (X.n0 ≤ mn σ → X.s0 ≤ mz σ → mn (rmm (emb r)) - X.n0 ≤ X.R.cells → mz (rmm (emb r)) - X.s0 ≤ X.R.slots → ∀ (H : Heap) (locs : List Loc) (L : Array Slot) (rest : List Value), vRel X.E X.D X.dA σ H → va_S (vA X.E) X.s.heap H locs → lv_has L X.c.maxLocals (vls X.E ls) → vx_W X.p X.l X.e X.R X.s X.m X.args X.below X.meth X.c H locs (mn σ - X.n0) (mz σ - X.s0) (X.Q (emb r)) (F0 X.m pc L rest) (adr X.E a))
theorem VT_cko {α : Type} {P : vX → Prop} {emb : α → vRes} {σ : vMem} {pc : Nat} {ls : List (Option Value)} {a b : Nat} {S : List Nat} {t : Option α} (k : knd σ b ∈ S → VT P emb σ pc ls a t) : VT P emb σ pc ls a (cko σ b S t) := by
  intro r hr
  unfold cko at hr
  by_cases h : knd σ b ∈ S
  · rw [if_pos h] at hr; exact k h r hr
  · rw [if_neg h] at hr; cases hr
theorem VT_none {α : Type} {P : vX → Prop} {emb : α → vRes} {σ : vMem} {pc : Nat} {ls : List (Option Value)} {a : Nat} : VT P emb σ pc ls a none := fun _ h => by cases h
section VXM
variable {β : Type} {em : β → vRes} {l : Launch} {y : MethodName} {cc : ByteArray} {nL : Nat} {ret : Option FieldType} {hh : List (Nat × Nat × Nat × Nat)} {d : Nat} {As : List Value} {σ : vMem} {t : Option β}
theorem V_xmid (ls0 : List (Option Value)) (hls : lv_args 0 As = vpr 0 ls0) (hlen : (lg_sl As).length ≤ nL) {r : β} (hr : t = some r) (w : V (vMX l y cc nL ret hh d (mn σ) (mz σ)) em σ 0 ls0 [] t) (E : vEnv) (D : va_G) (dA : Nat → ClassId) {p : Program} {e : Env} {s : State} {m : MethodId} {args : Array Value} {below : List Frame} {meth : Method} {c : Code} {s₁ : State} {ws : List Cond} (hws : ∀ w ∈ lw_all, w ∈ ws)
    (B : BodyLoose p l y (headSpec ws (vRoom d (mn (rmm (em r)) - mn σ) (mz (rmm (em r)) - mz σ))) cc nL ret e s m args below meth c s₁) (hml : c.maxLocals = nL) (ht : c.exceptionTable.toList = tableOf hh) (hv : va_Pc (As.map (rv E)) (vI E D dA σ) args s) :
    W p l e (headSpec ws (vRoom d (mn (rmm (em r)) - mn σ) (mz (rmm (em r)) - mz σ))).room s m args below meth c s.heap [] 0 0 (vx_MQ below (vQc E D dA (em r)) (vXc E D dA (em r)) args s (mn (rmm (em r)) - mn σ) (mz (rmm (em r)) - mz σ) (vA E)) (entryFrame m args nL) := by
  obtain ⟨m1, m2, k⟩ := w r hr
  obtain ⟨rfl, hR, hKn⟩ := hv
  have hts := atoms_spec (ws := ws) B.pre
  have hts : ∀ w ∈ lw_all, w.before _ s = true := fun w h => hts w (hws w h)
  have hown : s.vm.findClass y.cls = some m.cls := findClass_of_methodNamed B.named
  obtain ⟨X, hX⟩ : ∃ X : vX, X = ((p, l, e, vRoom d (mn (rmm (em r)) - mn σ) (mz (rmm (em r)) - mz σ), s, m, (As.map (rv E)).toArray, below, meth, c), E, D, dA, mn σ, mz σ, fun r => vx_MQ below (vQc E D dA r) (vXc E D dA r) (As.map (rv E)).toArray s (mn (rmm r) - mn σ) (mz (rmm r) - mz σ) (vA E)) := ⟨_, rfl⟩
  have hP : vMX l y cc nL ret hh d (mn σ) (mz σ) X := by
    subst hX
    exact ⟨⟨B.exec, B.bytes, hml, hown, hts, B.returns, B.notSynchronized, hKn, hR.1, Nat.le_refl _, Nat.le_refl _⟩, rfl, (name_of_methodNamed B.named B.method).1, rfl, rfl, ht, rfl⟩
  have h9 := k X hP
  subst hX
  have h9 := h9 (Nat.le_refl _) (Nat.le_refl _) (Nat.le_refl _) (Nat.le_refl _)
  have hl := lv_entry (As.map (rv E)) (n := nL) (by rw [rv_sl]; exact hlen)
  rw [rv_map, hls] at hl
  rw [lg_entry_eq]
  rw [← hml] at hl ⊢
  have h8 := h9 s.heap [] _ hR va_S.rf hl
  exact W.cs (by show 0 = mn σ - mn σ; omega) (by show 0 = mz σ - mz σ; omega) h8
/-- a walk from the start of a method that may throw -/
theorem V_xmethod (ls0 : List (Option Value)) (hy : plainName y.cls = true) (hls : lv_args 0 As = vpr 0 ls0) (hlen : (lg_sl As).length ≤ nL) (w : V (vMX l y cc nL ret [] d (mn σ) (mz σ)) em σ 0 ls0 [] t) {r : β} (hr : t = some r) : vOx l y (ws_ y cc nL ret) d As σ (em r) := by
  obtain ⟨m1, m2, -⟩ := w r hr
  refine ⟨m1, m2, fun E D dA => vx_ofW (cc := cc) (maxL := nL) (ret := ret) hy rfl ?_⟩
  intro p e s m args below meth c s₁ B hml ht hv
  exact V_xmid ls0 hls hlen hr w E D dA (fun w h => List.mem_cons_of_mem _ h) B hml (List.eq_nil_iff_forall_not_mem.mpr ht) hv
/-- .. with handlers -/
theorem V_wmethod (ls0 : List (Option Value)) (hy : plainName y.cls = true) (hls : lv_args 0 As = vpr 0 ls0) (hlen : (lg_sl As).length ≤ nL) (w : V (vMX l y cc nL ret hh d (mn σ) (mz σ)) em σ 0 ls0 [] t) {r : β} (hr : t = some r) : vOx l y (wsW_ y cc nL ret hh) d As σ (em r) := by
  obtain ⟨m1, m2, -⟩ := w r hr
  refine ⟨m1, m2, fun E D dA => vx_ofWH (cc := cc) (maxL := nL) (ret := ret) (hh := hh) hy rfl ?_⟩
  intro p e s m args below meth c s₁ B hml hv
  have ht := vx_table (x := y) B (atoms_spec (ws := wsW_ y cc nL ret hh) B.pre _ List.mem_cons_self)
  have h9 := V_xmid ls0 hls hlen hr w E D dA (fun w h => List.mem_cons_of_mem _ h) B hml ht hv
  exact h9
end VXM
section VXR
variable {l : Launch} {y : MethodName} {cc : ByteArray} {nL : Nat} {ret : Option FieldType} {hh : List (Nat × Nat × Nat × Nat)} {d n0 s0 : Nat} {β : Type} {em : β → vRes} {σ : vMem} {pc : Nat} {ls : List (Option Value)} {r : β}
theorem V_xret {v : Option Value} (he : em r = .inl (v, σ)) {st : List Value} (hst : st = v.toList) (hW : ∀ X, vMX l y cc nL ret hh d n0 s0 X → ∀ (H : Heap) (locs : List Loc) (L : Array Slot) (cells slots : Nat), (∀ t : State, t.heap = H → X.s.WarmedH t.vm → vQc X.E X.D X.dA (.inl (v, σ)) X.args X.s (.returned (v.map (rv X.E))) t) → (∀ q ∈ locs, vA X.E q.base) → W X.p X.l X.e X.R X.s X.m X.args X.below X.meth X.c H locs cells slots (MQ X.below (vQc X.E X.D X.dA (.inl (v, σ))) X.args X.s cells slots (vA X.E)) (F0 X.m pc L (v.toList.map (rv X.E)))) : V (vMX l y cc nL ret hh d n0 s0) em σ pc ls st (some r) := by
  intro r' hr
  cases hr
  subst hst
  rw [he]
  refine ⟨Nat.le_refl _, Nat.le_refl _, fun X hX g1 g2 g3 g4 H locs L hR hS hL => ?_⟩
  have h1 := hW X hX H locs L (mn σ - X.n0) (mz σ - X.s0) (fun t ht _ => ⟨_, _, rfl, rfl, by rw [ht]; exact hR, hS.F ht⟩) hS.2.2
  have hQ := hX.2.2.2.2.2.2
  rw [hQ]
  rw [hX.2.2.2.1, hX.2.2.2.2.1] at h1 ⊢
  exact vx_ret h1
theorem V_xireturn {v : Int32} (hdg : decode cc pc = .ok (.ireturn, 1)) (he : em r = .inl (some (.int v), σ)) (hty : ret = some .int := by rfl) : V (vMX l y cc nL ret hh d n0 s0) em σ pc ls [.int v] (some r) :=
  V_xret he rfl (fun X hX H locs L cells slots hq hf => W.iret hX.1.exec hX.1.code (by rw [hX.1.hret, hty]) hq hf hdg hX.1.lock)
theorem V_xzreturn {v : Int32} {ty : FieldType} (hn : narrow ty (.int v) = .int v) (hdg : decode cc pc = .ok (.ireturn, 1)) (he : em r = .inl (some (.int v), σ)) (hty : ret = some ty := by rfl) : V (vMX l y cc nL ret hh d n0 s0) em σ pc ls [.int v] (some r) :=
  V_xret he rfl (fun X hX H locs L cells slots hq hf => W.zret hX.1.exec hX.1.code (by rw [hX.1.hret, hty]) hn hq hf hdg hX.1.lock)
theorem V_xlreturn {v : Int64} (hdg : decode cc pc = .ok (.lreturn, 1)) (he : em r = .inl (some (.long v), σ)) (hty : ret = some .long := by rfl) : V (vMX l y cc nL ret hh d n0 s0) em σ pc ls [.long v] (some r) :=
  V_xret he rfl (fun X hX H locs L cells slots hq hf => W.lret hX.1.exec hX.1.code (by rw [hX.1.hret, hty]) hq hf hdg hX.1.lock)
theorem V_xreturn (hdg : decode cc pc = .ok (.return_, 1)) (he : em r = .inl (none, σ)) (hty : ret = none := by rfl) : V (vMX l y cc nL ret hh d n0 s0) em σ pc ls [] (some r) :=
  V_xret he rfl (fun X hX H locs L cells slots hq hf => W.vret hX.1.exec hX.1.code (by rw [hX.1.hret, hty]) hq hf hdg hX.1.lock)
theorem V_xareturnA {v : Nat} {ty : FieldType} (hrt : (∃ n, ty = .object n) ∨ ∃ t, ty = .array t) (hdg : decode cc pc = .ok (.areturn, 1)) (he : em r = .inl (some (.ref v), σ)) (hty : ret = some ty := by rfl) : V (vMX l y cc nL ret hh d n0 s0) em σ pc ls [.ref v] (some r) :=
  V_xret he rfl (fun X hX H locs L cells slots hq hf => W.aret hX.1.exec hX.1.code (by rw [hX.1.hret, hty]) hrt (Or.inr ⟨_, rfl⟩) hq hf hdg hX.1.lock)
/-- the cell of an object, and its class -/
theorem vThrown {E : vEnv} {D : va_G} {dA : Nat → ClassId} {s : State} {H : Heap} {a c : Nat} {C : String} {T : u_T} {N : Nat} (hR : vRel E D dA σ H) (hK : vKn E D dA s) (hk : knd σ a = c) (hc0 : c ≠ 0) (hc1 : c < 100) (hcl : vcl[c]? = some (C, T, N)) : ∃ cell : Cell, H[adr E a]? = some cell ∧ cell.vm = .none ∧ s.vm.findClass C = some cell.cls := by
  have h0 : knd σ a ≠ 0 := by rw [hk]; exact hc0
  have h9 := hR.P a _ (wl_get (hR.lt h0))
  rw [ent_obj hk hc1, ← hR.adr h0] at h9
  obtain ⟨r9, f1, cell, q1, q2, q3, q4⟩ := h9
  have hr9 : r9 = (C, T, N) := Option.some.inj (f1.symm.trans hcl)
  subst hr9
  exact ⟨cell, q1, q3, by rw [(hK.1.1 c _ hcl).2.1, q2]⟩
/-- not caught here -/
theorem VT_out {a c : Nat} {C : String} {T : u_T} {N : Nat} (hout : ∀ x ∈ tableOf hh, covers x pc = false) (hk : knd σ a = c) (hc0 : c ≠ 0) (hc1 : c < 100) (hcl : vcl[c]? = some (C, T, N)) (he : em r = .inr (a, σ)) : VT (vMX l y cc nL ret hh d n0 s0) em σ pc ls a (some r) := by
  intro r' hr
  cases hr
  rw [he]
  refine ⟨Nat.le_refl _, Nat.le_refl _, fun X hX g1 g2 g3 g4 H locs L rest hR hS hL => ?_⟩
  obtain ⟨cell, q1, q2, q3⟩ := vThrown hR hX.1.kn hk hc0 hc1 hcl
  have hQ := hX.2.2.2.2.2.2
  rw [hQ]
  refine vx_out (E := C) (ce := cell) (by rw [hX.2.2.2.2.2.1]; exact hout) hX.1.lock q1 q2 q3 (fun t ht _ => ⟨a, σ, rfl, rfl, by rw [ht]; exact hR, hS.F ht⟩) hS.2.2 (by rw [hX.2.2.2.1]; exact Nat.le_refl _) (by rw [hX.2.2.2.2.1]; exact Nat.le_refl _)
theorem VT_outS {a : Nat} (hout : ∀ x ∈ tableOf hh, covers x pc = false) (he : em r = .inr (a, σ)) : VT (vMX l y cc nL ret hh d n0 s0) em σ pc ls a (cko σ a [6, 17, 18] (some r)) := by
  refine VT_cko (fun hm => ?_)
  simp only [List.mem_cons, List.not_mem_nil, or_false] at hm
  rcases hm with hk | hk | hk
  · exact VT_out hout hk (by decide) (by decide) rfl he
  · exact VT_out hout hk (by decide) (by decide) rfl he
  · exact VT_out hout hk (by decide) (by decide) rfl he
/-- caught by the first row of the table -/
theorem VT_catch {a c h1 h2 h3 h4 : Nat} {hs : List (Nat × Nat × Nat × Nat)} {C own : String} {T : u_T} {N : Nat} {t : Option β} (hC : vPx (vMX l y cc nL ret ((h1, h2, h3, h4) :: hs) d n0 s0) cc nL own ret d) (hcv : covers ⟨h1, h2, h3, h4⟩ pc = true) (hc4 : h4 ≠ 0) (hc0 : c ≠ 0) (hc1 : c < 100) (hcl : vcl[c]? = some (C, T, N)) (q1 : Cond.classLink own h4 C ∈ lw_all) (q2 : Cond.castable C C ∈ lw_tbl) (kk : V (vMX l y cc nL ret ((h1, h2, h3, h4) :: hs) d n0 s0) em σ h3 ls [.ref a] t) : VT (vMX l y cc nL ret ((h1, h2, h3, h4) :: hs) d n0 s0) em σ pc ls a (cko σ a [c] t) := by
  refine VT_cko (fun hm => ?_)
  have hk : knd σ a = c := List.mem_singleton.mp hm
  intro r hr
  obtain ⟨g1, g2, g3⟩ := kk r hr
  refine ⟨g1, g2, fun X hX x1 x2 x3 x4 H locs L rest hR hS hL => ?_⟩
  obtain ⟨cell, f1, f2, f3⟩ := vThrown hR (hC X hX).kn hk hc0 hc1 hcl
  have k9 := g3 X hX x1 x2 x3 x4 H locs L hR hS hL
  exact vx_catch (own := own) (name := C) (E := C) (hC X hX).hown [] ⟨h1, h2, h3, h4⟩ (tableOf hs) (by rw [vMX_t X hX]; rfl) (fun z hz => nomatch hz) hcv hc4 ((hC X hX).ts _ q1) ((hC X hX).kn.2.1 _ (vNest_in q2 rfl)) f1 f2 f3 k9
end VXR
section VXC
variable {α β : Type} {P : vX → Prop} {emb : α → vRes} {cc : ByteArray} {nL : Nat} {own : String} {ret : Option FieldType} {d : Nat} {σ : vMem} {pc : Nat} {ls : List (Option Value)} {st rest : List Value} {em : β → vRes} {t0 : Option β} {f : β → Option α} {l : Launch}
theorem V_athrow {a : Nat} {t : Option α} (hC : vPx P cc nL own ret d) (hdg : decode cc pc = .ok (.athrow, 1)) (k : VT P emb σ pc ls a t) : V P emb σ pc ls (.ref a :: st) t := by
  intro r hr
  obtain ⟨g1, g2, g3⟩ := k r hr
  exact ⟨g1, g2, fun X hX x1 x2 x3 x4 H locs L hR hS hL => vx_athrow (hC X hX).exec (hC X hX).code hdg (g3 X hX x1 x2 x3 x4 H locs L _ hR hS hL)⟩
theorem VT_clr {a : Nat} {ls' : List (Option Value)} {t : Option α} (is : List Nat) (h : ls' = vclr ls is) (k : VT P emb σ pc ls' a t) : VT P emb σ pc ls a t := by
  subst h
  intro r hr
  obtain ⟨g1, g2, g3⟩ := k r hr
  exact ⟨g1, g2, fun X hX x1 x2 x3 x4 H locs L rest hR hS hL => g3 X hX x1 x2 x3 x4 H locs L rest hR hS (vls_le hL (vle_clr is ls))⟩
theorem V_xcall {y : MethodName} {ws : List Cond} {mL : Nat} {d' : Nat} {As : List Value} (hC : vPx P cc nL own ret d) (hd : d' + 1 ≤ d) (hmL : mL ≤ 45) (hroom : (rest.map fun v => v.category).sum ≤ 8)
    (hM : ∀ r, t0 = some r → vOx l y ws d' As σ (em r)) (hl : ∀ X, P X → X.l = l)
    (run : ∀ X, P X → ∀ (mc ms : Nat) (r : vRes), vx_Met X.l y ws (vRoom d' mc ms) (va_Pc (As.map (rv X.E)) (vI X.E X.D X.dA σ)) (vQc X.E X.D X.dA r) (vXc X.E X.D X.dA r) mc ms (vA X.E) → ∀ (H : Heap) (locs : List Loc) (L : Array Slot), vRel X.E X.D X.dA σ H → va_S (vA X.E) X.s.heap H locs → L.size = nL → (vRoom d' mc ms).frames + 1 ≤ X.R.frames → 8 + (mL + 11) + (vRoom d' mc ms).locals ≤ X.R.locals → 2 * (F0 X.m pc L (st.map (rv X.E))).monitorRoom + ((rest.map (rv X.E)).map fun v => v.category).sum ≤ 8 → (mn σ - X.n0) + mc ≤ X.R.cells → (mz σ - X.s0) + ms ≤ X.R.slots →
      ∃ a', vx_Run X.p X.l X.e X.R X.s X.m X.args X.below X.meth X.c H locs (mn σ - X.n0) (mz σ - X.s0) mc ms (F0 X.m pc L (st.map (rv X.E))) (rest.map (rv X.E)) (vQc X.E X.D X.dA r a') (vXc X.E X.D X.dA r) (vA X.E))
    (kk : ∀ r v σ1, em r = .inl (v, σ1) → V P emb σ1 (pc + 3) ls (v.toList ++ rest) (f r)) (kx : ∀ r a σ1, em r = .inr (a, σ1) → VT P emb σ1 pc ls a (f r)) : V P emb σ pc ls st (bp t0 f) := by
  intro r hr
  cases h0 : t0 with
  | none =>
    rw [h0] at hr
    cases hr
  | some b =>
    rw [h0] at hr
    have hr : f b = some r := hr
    obtain ⟨m1, m2, hMet⟩ := hM b h0
    have hpre : ∀ X, P X → mn σ - X.n0 + (mn (rmm (em b)) - mn σ) ≤ X.R.cells → mz σ - X.s0 + (mz (rmm (em b)) - mz σ) ≤ X.R.slots → ∀ (H : Heap) (locs : List Loc) (L : Array Slot), vRel X.E X.D X.dA σ H → va_S (vA X.E) X.s.heap H locs → L.size = nL → ∃ a', vx_Run X.p X.l X.e X.R X.s X.m X.args X.below X.meth X.c H locs (mn σ - X.n0) (mz σ - X.s0) (mn (rmm (em b)) - mn σ) (mz (rmm (em b)) - mz σ) (F0 X.m pc L (st.map (rv X.E))) (rest.map (rv X.E)) (vQc X.E X.D X.dA (em b) a') (vXc X.E X.D X.dA (em b)) (vA X.E) := by
      intro X hX c1 c2 H locs L hR hS hL
      have hfr := (hC X hX).fr
      have hlo := (hC X hX).lo
      have hMX := hMet X.E X.D X.dA
      rw [← hl X hX] at hMX
      exact run X hX _ _ _ hMX H locs L hR hS hL (by show d' + 1 + 1 ≤ _; omega) (by show 8 + (mL + 11) + 64 * (d' + 1) ≤ _; omega) (lv_room (by rw [vCat]; exact hroom)) c1 c2
    cases hb : em b with
    | inl q =>
      obtain ⟨v, σ1⟩ := q
      rw [hb] at m1 m2 hpre
      have m1 : mn σ ≤ mn σ1 := m1
      have m2 : mz σ ≤ mz σ1 := m2
      obtain ⟨h1, h2, h3⟩ := kk b v σ1 hb r hr
      refine ⟨Nat.le_trans m1 h1, Nat.le_trans m2 h2, fun X hX g1 g2 g3 g4 H locs L hR hS hL => ?_⟩
      obtain ⟨a', hrun⟩ := hpre X hX (by show _ + (mn σ1 - mn σ) ≤ _; omega) (by show _ + (mz σ1 - mz σ) ≤ _; omega) H locs L hR hS (by rw [← (hC X hX).ml]; exact hL.1)
      intro T hT XS
      rcases hrun T hT XS with ⟨v9, st₀, t, T', L2, e0, XS', hL2, e1, e2, ⟨v', σ', hres, hv, hrel, hF⟩, go⟩ | ⟨q, st₀, t, T', L2, E9, ce, e0, XS', hL2, e1, e2, ⟨a9, σ9, hres, -⟩, -⟩
      · cases hres
        cases hv
        obtain ⟨hz, hk⟩ := hF
        rw [e0] at hz hk
        have k9 := h3 X hX (Nat.le_trans g1 m1) (Nat.le_trans g2 m2) g3 g4 T'.heap (locs ++ L2) L (by rw [e1]; exact hrel) ⟨Nat.le_trans hS.1 (by rw [e1]; exact hz), fun q q1 q2 => by rw [e1, hk q (Nat.lt_of_lt_of_le q1 hS.1) q2]; exact hS.2.1 q q1 q2, fun q hq => by
          rcases List.mem_append.mp hq with h | h
          · exact hS.2.2 q h
          · exact hL2 q h⟩ hL
        have c1 : mn σ1 - X.n0 = (mn σ - X.n0) + (mn σ1 - mn σ) := by omega
        have c2 : mz σ1 - X.s0 = (mz σ - X.s0) + (mz σ1 - mz σ) := by omega
        rw [c1, c2] at k9
        obtain ⟨t2, a1, b1⟩ := k9 T' rfl XS'
        refine ⟨t2, go t2 ?_, b1⟩
        have e9 : (v.toList ++ rest).map (rv X.E) = (v.map (rv X.E)).toList ++ rest.map (rv X.E) := by
          rw [List.map_append]
          cases v <;> rfl
        rw [e9] at a1
        exact a1
      · cases hres
    | inr q =>
      obtain ⟨a, σ1⟩ := q
      rw [hb] at m1 m2 hpre
      have m1 : mn σ ≤ mn σ1 := m1
      have m2 : mz σ ≤ mz σ1 := m2
      obtain ⟨h1, h2, h3⟩ := kx b a σ1 hb r hr
      refine ⟨Nat.le_trans m1 h1, Nat.le_trans m2 h2, fun X hX g1 g2 g3 g4 H locs L hR hS hL => ?_⟩
      obtain ⟨a', hrun⟩ := hpre X hX (by show _ + (mn σ1 - mn σ) ≤ _; omega) (by show _ + (mz σ1 - mz σ) ≤ _; omega) H locs L hR hS (by rw [← (hC X hX).ml]; exact hL.1)
      intro T hT XS
      rcases hrun T hT XS with ⟨v9, st₀, t, T', L2, e0, XS', hL2, e1, e2, ⟨v', σ', hres, -⟩, -⟩ | ⟨q, st₀, t, T', L2, E9, ce, e0, XS', hL2, e1, e2, ⟨a9, σ9, hres, hq, hrel, hF⟩, hce, hcv, hcl, go⟩
      · cases hres
      · cases hres
        subst hq
        obtain ⟨hz, hk⟩ := hF
        rw [e0] at hz hk
        have k9 := h3 X hX (Nat.le_trans g1 m1) (Nat.le_trans g2 m2) g3 g4 T'.heap (locs ++ L2) L (rest.map (rv X.E)) (by rw [e1]; exact hrel) ⟨Nat.le_trans hS.1 (by rw [e1]; exact hz), fun q q1 q2 => by rw [e1, hk q (Nat.lt_of_lt_of_le q1 hS.1) q2]; exact hS.2.1 q q1 q2, fun q hq => by
          rcases List.mem_append.mp hq with h | h
          · exact hS.2.2 q h
          · exact hL2 q h⟩ hL
        have c1 : mn σ1 - X.n0 = (mn σ - X.n0) + (mn σ1 - mn σ) := by omega
        have c2 : mz σ1 - X.s0 = (mz σ - X.s0) + (mz σ1 - mz σ) := by omega
        rw [c1, c2] at k9
        obtain ⟨t2, a1, b1⟩ := k9 T' rfl XS'
        exact ⟨t2, go.trans a1, b1⟩

theorem V_xcallV {y : MethodName} {code : ByteArray} {mL : Nat} {rt : Option FieldType} {d' idx : Nat} {a : Nat} {As : List Value} {C : String} (hC : vPx P cc nL own ret d) (hdg : decode cc pc = .ok (.invokevirtual idx, 3)) (n : Nat) (hw : GoodIn lw_all (wsV own idx C y (ws_ y code mL rt))) (hy : y.cls = C ∧ y.cls ≠ "java/lang/invoke/MethodHandle" ∧ y.cls ≠ "java/lang/invoke/VarHandle" ∧ (parseMethodDescriptor y.desc).map (fun d => d.parameters.length) = some n) {c : Nat} {T : u_T} {N : Nat} (hk : knd σ a = c) (hc0 : c ≠ 0) (hc1 : c < 100) (hcl : vcl[c]? = some (C, T, N)) (hn : As.length = n) (hst : st = As.reverse ++ .ref a :: rest) (hroom : (rest.map fun v => v.category).sum ≤ 8) (hd : d' + 1 ≤ d) (hmL : mL ≤ 45) (hl : ∀ X, P X → X.l = l) (hM : ∀ r, t0 = some r → vOx l y (ws_ y code mL rt) d' (.ref a :: As) σ (em r)) (kk : ∀ r v σ1, em r = .inl (v, σ1) → V P emb σ1 (pc + 3) ls (v.toList ++ rest) (f r)) (kx : ∀ r a σ1, em r = .inr (a, σ1) → VT P emb σ1 pc ls a (f r)) : V P emb σ pc ls st (bp t0 f) := by
  subst hst
  refine V_xcall hC hd hmL hroom hM hl (fun X hX mc ms r hMet H locs L hR hS hL k1 k2 k3 k4 k5 => ⟨_, vx_runV (As := As.map (rv X.E)) (rest := rest.map (rv X.E)) (hC X hX).fix hMet (cwV n (hC X hX).ts hw rfl rfl rfl hy ⟨k1, k2⟩) ⟨vI_blind, vRecv hR (hC X hX).kn hk hc0 hc1 hcl, fun U hU hW => ⟨rfl, vI_at hR (hC X hX).kn hS hU hW⟩⟩ rfl (by rw [List.length_map]; exact hn) hL (by simp only [List.map_append, List.map_reverse, List.map_cons]; rfl) k3 hdg ⟨k4, k5⟩⟩) kk kx
theorem V_wcallV {y : MethodName} {code : ByteArray} {mL : Nat} {rt : Option FieldType} {hh : List (Nat × Nat × Nat × Nat)} {d' idx : Nat} {a : Nat} {As : List Value} {C : String} (hC : vPx P cc nL own ret d) (hdg : decode cc pc = .ok (.invokevirtual idx, 3)) (n : Nat) (hw : GoodIn lw_all (wsV own idx C y (wsW_ y code mL rt hh))) (hy : y.cls = C ∧ y.cls ≠ "java/lang/invoke/MethodHandle" ∧ y.cls ≠ "java/lang/invoke/VarHandle" ∧ (parseMethodDescriptor y.desc).map (fun d => d.parameters.length) = some n) {c : Nat} {T : u_T} {N : Nat} (hk : knd σ a = c) (hc0 : c ≠ 0) (hc1 : c < 100) (hcl : vcl[c]? = some (C, T, N)) (hn : As.length = n) (hst : st = As.reverse ++ .ref a :: rest) (hroom : (rest.map fun v => v.category).sum ≤ 8) (hd : d' + 1 ≤ d) (hmL : mL ≤ 45) (hl : ∀ X, P X → X.l = l) (hM : ∀ r, t0 = some r → vOx l y (wsW_ y code mL rt hh) d' (.ref a :: As) σ (em r)) (kk : ∀ r v σ1, em r = .inl (v, σ1) → V P emb σ1 (pc + 3) ls (v.toList ++ rest) (f r)) (kx : ∀ r a σ1, em r = .inr (a, σ1) → VT P emb σ1 pc ls a (f r)) : V P emb σ pc ls st (bp t0 f) := by
  subst hst
  refine V_xcall hC hd hmL hroom hM hl (fun X hX mc ms r hMet H locs L hR hS hL k1 k2 k3 k4 k5 => ⟨_, vx_runVX (As := As.map (rv X.E)) (rest := rest.map (rv X.E)) (hC X hX).fix hMet (vx_cwVW n (hC X hX).ts hw rfl rfl rfl hy ⟨k1, k2⟩) ⟨vI_blind, vRecv hR (hC X hX).kn hk hc0 hc1 hcl, fun U hU hW => ⟨rfl, vI_at hR (hC X hX).kn hS hU hW⟩⟩ rfl (by rw [List.length_map]; exact hn) hL (by simp only [List.map_append, List.map_reverse, List.map_cons]; rfl) k3 hdg ⟨k4, k5⟩⟩) kk kx
theorem V_xcallU {y : MethodName} {code : ByteArray} {mL : Nat} {rt : Option FieldType} {d' idx : Nat} {a : Nat} {As : List Value} {C owner : String} {x : MethodName} (hC : vPx P cc nL own ret d) (hdg : decode cc pc = .ok (.invokevirtual idx, 3)) (n : Nat) (hw : GoodIn lw_all (va_wsU own idx C owner x y (ws_ y code mL rt))) (hyx : y = ⟨owner, x.name, x.desc⟩) (hy : owner ≠ "java/lang/invoke/MethodHandle" ∧ owner ≠ "java/lang/invoke/VarHandle" ∧ (parseMethodDescriptor x.desc).map (fun d => d.parameters.length) = some n) {c : Nat} {T : u_T} {N : Nat} (hk : knd σ a = c) (hc0 : c ≠ 0) (hc1 : c < 100) (hcl : vcl[c]? = some (C, T, N)) (hn : As.length = n) (hst : st = As.reverse ++ .ref a :: rest) (hroom : (rest.map fun v => v.category).sum ≤ 8) (hd : d' + 1 ≤ d) (hmL : mL ≤ 45) (hl : ∀ X, P X → X.l = l) (hM : ∀ r, t0 = some r → vOx l y (ws_ y code mL rt) d' (.ref a :: As) σ (em r)) (kk : ∀ r v σ1, em r = .inl (v, σ1) → V P emb σ1 (pc + 3) ls (v.toList ++ rest) (f r)) (kx : ∀ r a σ1, em r = .inr (a, σ1) → VT P emb σ1 pc ls a (f r)) : V P emb σ pc ls st (bp t0 f) := by
  subst hst
  refine V_xcall hC hd hmL hroom hM hl (fun X hX mc ms r hMet H locs L hR hS hL k1 k2 k3 k4 k5 => ⟨_, vx_runU (As := As.map (rv X.E)) (rest := rest.map (rv X.E)) (hC X hX).fix hMet (va_cwU n (hC X hX).ts hw rfl rfl rfl hyx hy ⟨k1, k2⟩) ⟨vI_blind, vRecv hR (hC X hX).kn hk hc0 hc1 hcl, fun U hU hW => ⟨rfl, vI_at hR (hC X hX).kn hS hU hW⟩⟩ rfl (by rw [List.length_map]; exact hn) hL (by simp only [List.map_append, List.map_reverse, List.map_cons]; rfl) k3 hdg ⟨k4, k5⟩⟩) kk kx
theorem V_xcallA {y : MethodName} {code : ByteArray} {mL : Nat} {rt : Option FieldType} {d' idx : Nat} {a : Nat} {As : List Value} {C owner : String} {x : MethodName} (hC : vPx P cc nL own ret d) (hdg : decode cc pc = .ok (.invokevirtual idx, 3)) (n : Nat) (hw : GoodIn lw_all (va_wsU own idx C owner x y (ws_ y code mL rt))) (hz : Cond.declares ⟨owner, x.name, x.desc⟩ ∈ lw_tbl) (hy : owner ≠ "java/lang/invoke/MethodHandle" ∧ owner ≠ "java/lang/invoke/VarHandle" ∧ (parseMethodDescriptor x.desc).map (fun d => d.parameters.length) = some n) {c : Nat} {T : u_T} {N : Nat} (hk : knd σ a = c) (hc0 : c ≠ 0) (hc1 : c < 100) (hcl : vcl[c]? = some (C, T, N)) (hn : As.length = n) (hst : st = As.reverse ++ .ref a :: rest) (hroom : (rest.map fun v => v.category).sum ≤ 8) (hd : d' + 1 ≤ d) (hmL : mL ≤ 45) (hl : ∀ X, P X → X.l = l) (hM : ∀ r, t0 = some r → vOx l y (ws_ y code mL rt) d' (.ref a :: As) σ (em r)) (kk : ∀ r v σ1, em r = .inl (v, σ1) → V P emb σ1 (pc + 3) ls (v.toList ++ rest) (f r)) (kx : ∀ r a σ1, em r = .inr (a, σ1) → VT P emb σ1 pc ls a (f r)) : V P emb σ pc ls st (bp t0 f) := by
  subst hst
  refine V_xcall hC hd hmL hroom hM hl (fun X hX mc ms r hMet H locs L hR hS hL k1 k2 k3 k4 k5 => ⟨_, vx_runU (As := As.map (rv X.E)) (rest := rest.map (rv X.E)) (hC X hX).fix hMet (va_cwA n (hC X hX).ts hw rfl rfl rfl ((hC X hX).kn.2.1 _ (vNest_in hz rfl)) hy ⟨k1, k2⟩) ⟨vI_blind, vRecv hR (hC X hX).kn hk hc0 hc1 hcl, fun U hU hW => ⟨rfl, vI_at hR (hC X hX).kn hS hU hW⟩⟩ rfl (by rw [List.length_map]; exact hn) hL (by simp only [List.map_append, List.map_reverse, List.map_cons]; rfl) k3 hdg ⟨k4, k5⟩⟩) kk kx
theorem V_xcallS {y : MethodName} {code : ByteArray} {mL : Nat} {rt : Option FieldType} {d' idx : Nat} {As : List Value}  (hC : vPx P cc nL own ret d) (hdg : decode cc pc = .ok (.invokestatic idx, 3)) (n : Nat) (hw : GoodIn lw_all (va_wsS own idx y (ws_ y code mL rt))) (hy : y.cls ≠ "java/lang/invoke/MethodHandle" ∧ y.cls ≠ "java/lang/invoke/VarHandle" ∧ (parseMethodDescriptor y.desc).map (fun d => d.parameters.length) = some n) (hn : As.length = n) (hst : st = As.reverse ++ rest) (hroom : (rest.map fun v => v.category).sum ≤ 8) (hd : d' + 1 ≤ d) (hmL : mL ≤ 45) (hl : ∀ X, P X → X.l = l) (hM : ∀ r, t0 = some r → vOx l y (ws_ y code mL rt) d' As σ (em r)) (kk : ∀ r v σ1, em r = .inl (v, σ1) → V P emb σ1 (pc + 3) ls (v.toList ++ rest) (f r)) (kx : ∀ r a σ1, em r = .inr (a, σ1) → VT P emb σ1 pc ls a (f r)) : V P emb σ pc ls st (bp t0 f) := by
  subst hst
  refine V_xcall hC hd hmL hroom hM hl (fun X hX mc ms r hMet H locs L hR hS hL k1 k2 k3 k4 k5 => ⟨_, vx_runS (As := As.map (rv X.E)) (rest := rest.map (rv X.E)) (hC X hX).fix hMet (va_cwS n (hC X hX).ts hw rfl rfl rfl hy ⟨k1, k2⟩) ⟨vI_blind, fun U hU hW => ⟨rfl, vI_at hR (hC X hX).kn hS hU hW⟩⟩ rfl (by rw [List.length_map]; exact hn) hL (by simp only [List.map_append, List.map_reverse]) k3 hdg ⟨k4, k5⟩⟩) kk kx
theorem V_wcallS {y : MethodName} {code : ByteArray} {mL : Nat} {rt : Option FieldType} {hh : List (Nat × Nat × Nat × Nat)} {d' idx : Nat} {As : List Value}  (hC : vPx P cc nL own ret d) (hdg : decode cc pc = .ok (.invokestatic idx, 3)) (n : Nat) (hw : GoodIn lw_all (va_wsS own idx y (wsW_ y code mL rt hh))) (hy : y.cls ≠ "java/lang/invoke/MethodHandle" ∧ y.cls ≠ "java/lang/invoke/VarHandle" ∧ (parseMethodDescriptor y.desc).map (fun d => d.parameters.length) = some n) (hn : As.length = n) (hst : st = As.reverse ++ rest) (hroom : (rest.map fun v => v.category).sum ≤ 8) (hd : d' + 1 ≤ d) (hmL : mL ≤ 45) (hl : ∀ X, P X → X.l = l) (hM : ∀ r, t0 = some r → vOx l y (wsW_ y code mL rt hh) d' As σ (em r)) (kk : ∀ r v σ1, em r = .inl (v, σ1) → V P emb σ1 (pc + 3) ls (v.toList ++ rest) (f r)) (kx : ∀ r a σ1, em r = .inr (a, σ1) → VT P emb σ1 pc ls a (f r)) : V P emb σ pc ls st (bp t0 f) := by
  subst hst
  refine V_xcall hC hd hmL hroom hM hl (fun X hX mc ms r hMet H locs L hR hS hL k1 k2 k3 k4 k5 => ⟨_, vx_runSX (As := As.map (rv X.E)) (rest := rest.map (rv X.E)) (hC X hX).fix hMet (vx_cwSW n (hC X hX).ts hw rfl rfl rfl hy ⟨k1, k2⟩) ⟨vI_blind, fun U hU hW => ⟨rfl, vI_at hR (hC X hX).kn hS hU hW⟩⟩ rfl (by rw [List.length_map]; exact hn) hL (by simp only [List.map_append, List.map_reverse]) k3 hdg ⟨k4, k5⟩⟩) kk kx
theorem bx_bp {α β : Type} (o : Option ((α × vMem) ⊕ (Nat × vMem))) (f : α → vMem → Option β) (h : Nat → vMem → Option β) : bx o f h = bp o (fun s => match s with
    | .inl p => f p.1 p.2
    | .inr p => h p.1 p.2) := by
  rcases o with _ | o | o <;> rfl
theorem bxv_bp {β : Type} (o : Option (vMem ⊕ (Nat × vMem))) (f : vMem → Option β) (h : Nat → vMem → Option β) : bxv o f h = bp o (fun s => match s with
    | .inl p => f p
    | .inr p => h p.1 p.2) := by
  rcases o with _ | o | o <;> rfl
end VXC
theorem V_xcallV_I {α : Type} {P : vX → Prop} {emb : α → vRes} {cc : ByteArray} {nL : Nat} {own : String} {ret : Option FieldType} {d : Nat} {σ : vMem} {pc : Nat} {ls : List (Option Value)} {st rest : List Value} {l : Launch} {t0 : Option ((Int32 × vMem) ⊕ (Nat × vMem))} {f : Int32 → vMem → Option α} {h : Nat → vMem → Option α} {y : MethodName} {code : ByteArray} {mL : Nat} {rt : Option FieldType} {d' idx : Nat} {a : Nat} {As : List Value} {C : String} (hC : vPx P cc nL own ret d) (hdg : decode cc pc = .ok (.invokevirtual idx, 3)) (n : Nat) (hw : GoodIn lw_all (wsV own idx C y (ws_ y code mL rt))) (hy : y.cls = C ∧ y.cls ≠ "java/lang/invoke/MethodHandle" ∧ y.cls ≠ "java/lang/invoke/VarHandle" ∧ (parseMethodDescriptor y.desc).map (fun d => d.parameters.length) = some n) {c : Nat} {T : u_T} {N : Nat} (hk : knd σ a = c) (hc0 : c ≠ 0) (hc1 : c < 100) (hcl : vcl[c]? = some (C, T, N)) (hn : As.length = n) (hst : st = As.reverse ++ .ref a :: rest) (hroom : (rest.map fun v => v.category).sum ≤ 8) (hd : d' + 1 ≤ d) (hmL : mL ≤ 45) (hl : ∀ X, P X → X.l = l) (hM : ∀ r, t0 = some r → vOx l y (ws_ y code mL rt) d' (.ref a :: As) σ (xI r)) (kk : ∀ x σ1, V P emb σ1 (pc + 3) ls (.int x :: rest) (f x σ1)) (kx : ∀ a σ1, VT P emb σ1 pc ls a (h a σ1)) : V P emb σ pc ls st (bx t0 f h) := by
  rw [bx_bp]
  exact V_xcallV (em := xI) hC hdg n hw hy hk hc0 hc1 hcl hn hst hroom hd hmL hl hM (fun r v σ1 he => by rcases r with p | p <;> cases he; exact kk _ _) (fun r a σ1 he => by rcases r with p | p <;> cases he; exact kx _ _)
theorem V_xcallV_L {α : Type} {P : vX → Prop} {emb : α → vRes} {cc : ByteArray} {nL : Nat} {own : String} {ret : Option FieldType} {d : Nat} {σ : vMem} {pc : Nat} {ls : List (Option Value)} {st rest : List Value} {l : Launch} {t0 : Option ((Int64 × vMem) ⊕ (Nat × vMem))} {f : Int64 → vMem → Option α} {h : Nat → vMem → Option α} {y : MethodName} {code : ByteArray} {mL : Nat} {rt : Option FieldType} {d' idx : Nat} {a : Nat} {As : List Value} {C : String} (hC : vPx P cc nL own ret d) (hdg : decode cc pc = .ok (.invokevirtual idx, 3)) (n : Nat) (hw : GoodIn lw_all (wsV own idx C y (ws_ y code mL rt))) (hy : y.cls = C ∧ y.cls ≠ "java/lang/invoke/MethodHandle" ∧ y.cls ≠ "java/lang/invoke/VarHandle" ∧ (parseMethodDescriptor y.desc).map (fun d => d.parameters.length) = some n) {c : Nat} {T : u_T} {N : Nat} (hk : knd σ a = c) (hc0 : c ≠ 0) (hc1 : c < 100) (hcl : vcl[c]? = some (C, T, N)) (hn : As.length = n) (hst : st = As.reverse ++ .ref a :: rest) (hroom : (rest.map fun v => v.category).sum ≤ 8) (hd : d' + 1 ≤ d) (hmL : mL ≤ 45) (hl : ∀ X, P X → X.l = l) (hM : ∀ r, t0 = some r → vOx l y (ws_ y code mL rt) d' (.ref a :: As) σ (xL r)) (kk : ∀ x σ1, V P emb σ1 (pc + 3) ls (.long x :: rest) (f x σ1)) (kx : ∀ a σ1, VT P emb σ1 pc ls a (h a σ1)) : V P emb σ pc ls st (bx t0 f h) := by
  rw [bx_bp]
  exact V_xcallV (em := xL) hC hdg n hw hy hk hc0 hc1 hcl hn hst hroom hd hmL hl hM (fun r v σ1 he => by rcases r with p | p <;> cases he; exact kk _ _) (fun r a σ1 he => by rcases r with p | p <;> cases he; exact kx _ _)
theorem V_xcallV_A {α : Type} {P : vX → Prop} {emb : α → vRes} {cc : ByteArray} {nL : Nat} {own : String} {ret : Option FieldType} {d : Nat} {σ : vMem} {pc : Nat} {ls : List (Option Value)} {st rest : List Value} {l : Launch} {t0 : Option ((Nat × vMem) ⊕ (Nat × vMem))} {f : Nat → vMem → Option α} {h : Nat → vMem → Option α} {y : MethodName} {code : ByteArray} {mL : Nat} {rt : Option FieldType} {d' idx : Nat} {a : Nat} {As : List Value} {C : String} (hC : vPx P cc nL own ret d) (hdg : decode cc pc = .ok (.invokevirtual idx, 3)) (n : Nat) (hw : GoodIn lw_all (wsV own idx C y (ws_ y code mL rt))) (hy : y.cls = C ∧ y.cls ≠ "java/lang/invoke/MethodHandle" ∧ y.cls ≠ "java/lang/invoke/VarHandle" ∧ (parseMethodDescriptor y.desc).map (fun d => d.parameters.length) = some n) {c : Nat} {T : u_T} {N : Nat} (hk : knd σ a = c) (hc0 : c ≠ 0) (hc1 : c < 100) (hcl : vcl[c]? = some (C, T, N)) (hn : As.length = n) (hst : st = As.reverse ++ .ref a :: rest) (hroom : (rest.map fun v => v.category).sum ≤ 8) (hd : d' + 1 ≤ d) (hmL : mL ≤ 45) (hl : ∀ X, P X → X.l = l) (hM : ∀ r, t0 = some r → vOx l y (ws_ y code mL rt) d' (.ref a :: As) σ (xA r)) (kk : ∀ x σ1, V P emb σ1 (pc + 3) ls (.ref x :: rest) (f x σ1)) (kx : ∀ a σ1, VT P emb σ1 pc ls a (h a σ1)) : V P emb σ pc ls st (bx t0 f h) := by
  rw [bx_bp]
  exact V_xcallV (em := xA) hC hdg n hw hy hk hc0 hc1 hcl hn hst hroom hd hmL hl hM (fun r v σ1 he => by rcases r with p | p <;> cases he; exact kk _ _) (fun r a σ1 he => by rcases r with p | p <;> cases he; exact kx _ _)
theorem V_xcallV_V {α : Type} {P : vX → Prop} {emb : α → vRes} {cc : ByteArray} {nL : Nat} {own : String} {ret : Option FieldType} {d : Nat} {σ : vMem} {pc : Nat} {ls : List (Option Value)} {st rest : List Value} {l : Launch} {t0 : Option (vMem ⊕ (Nat × vMem))} {f : vMem → Option α} {h : Nat → vMem → Option α} {y : MethodName} {code : ByteArray} {mL : Nat} {rt : Option FieldType} {d' idx : Nat} {a : Nat} {As : List Value} {C : String} (hC : vPx P cc nL own ret d) (hdg : decode cc pc = .ok (.invokevirtual idx, 3)) (n : Nat) (hw : GoodIn lw_all (wsV own idx C y (ws_ y code mL rt))) (hy : y.cls = C ∧ y.cls ≠ "java/lang/invoke/MethodHandle" ∧ y.cls ≠ "java/lang/invoke/VarHandle" ∧ (parseMethodDescriptor y.desc).map (fun d => d.parameters.length) = some n) {c : Nat} {T : u_T} {N : Nat} (hk : knd σ a = c) (hc0 : c ≠ 0) (hc1 : c < 100) (hcl : vcl[c]? = some (C, T, N)) (hn : As.length = n) (hst : st = As.reverse ++ .ref a :: rest) (hroom : (rest.map fun v => v.category).sum ≤ 8) (hd : d' + 1 ≤ d) (hmL : mL ≤ 45) (hl : ∀ X, P X → X.l = l) (hM : ∀ r, t0 = some r → vOx l y (ws_ y code mL rt) d' (.ref a :: As) σ (xV r)) (kk : ∀ σ1, V P emb σ1 (pc + 3) ls rest (f σ1)) (kx : ∀ a σ1, VT P emb σ1 pc ls a (h a σ1)) : V P emb σ pc ls st (bxv t0 f h) := by
  rw [bxv_bp]
  exact V_xcallV (em := xV) hC hdg n hw hy hk hc0 hc1 hcl hn hst hroom hd hmL hl hM (fun r v σ1 he => by rcases r with p | p <;> cases he; exact kk _) (fun r a σ1 he => by rcases r with p | p <;> cases he; exact kx _ _)
theorem V_wcallV_I {α : Type} {P : vX → Prop} {emb : α → vRes} {cc : ByteArray} {nL : Nat} {own : String} {ret : Option FieldType} {d : Nat} {σ : vMem} {pc : Nat} {ls : List (Option Value)} {st rest : List Value} {l : Launch} {t0 : Option (Int32 × vMem)} {f : Int32 → vMem → Option α} {y : MethodName} {code : ByteArray} {mL : Nat} {rt : Option FieldType} {hh : List (Nat × Nat × Nat × Nat)} {d' idx : Nat} {a : Nat} {As : List Value} {C : String} (hC : vPx P cc nL own ret d) (hdg : decode cc pc = .ok (.invokevirtual idx, 3)) (n : Nat) (hw : GoodIn lw_all (wsV own idx C y (wsW_ y code mL rt hh))) (hy : y.cls = C ∧ y.cls ≠ "java/lang/invoke/MethodHandle" ∧ y.cls ≠ "java/lang/invoke/VarHandle" ∧ (parseMethodDescriptor y.desc).map (fun d => d.parameters.length) = some n) {c : Nat} {T : u_T} {N : Nat} (hk : knd σ a = c) (hc0 : c ≠ 0) (hc1 : c < 100) (hcl : vcl[c]? = some (C, T, N)) (hn : As.length = n) (hst : st = As.reverse ++ .ref a :: rest) (hroom : (rest.map fun v => v.category).sum ≤ 8) (hd : d' + 1 ≤ d) (hmL : mL ≤ 45) (hl : ∀ X, P X → X.l = l) (hM : ∀ r, t0 = some r → vOx l y (wsW_ y code mL rt hh) d' (.ref a :: As) σ (nxI r)) (kk : ∀ x σ1, V P emb σ1 (pc + 3) ls (.int x :: rest) (f x σ1)) : V P emb σ pc ls st (bd t0 f) :=
  V_wcallV (em := nxI) (f := fun p => f p.1 p.2) hC hdg n hw hy hk hc0 hc1 hcl hn hst hroom hd hmL hl hM (fun r v σ1 he => by cases he; exact kk _ _) (fun r a σ1 he => by cases he)
theorem V_xcallU_I {α : Type} {P : vX → Prop} {emb : α → vRes} {cc : ByteArray} {nL : Nat} {own : String} {ret : Option FieldType} {d : Nat} {σ : vMem} {pc : Nat} {ls : List (Option Value)} {st rest : List Value} {l : Launch} {t0 : Option ((Int32 × vMem) ⊕ (Nat × vMem))} {f : Int32 → vMem → Option α} {h : Nat → vMem → Option α} {y : MethodName} {code : ByteArray} {mL : Nat} {rt : Option FieldType} {d' idx : Nat} {a : Nat} {As : List Value} {C owner : String} {x : MethodName} (hC : vPx P cc nL own ret d) (hdg : decode cc pc = .ok (.invokevirtual idx, 3)) (n : Nat) (hw : GoodIn lw_all (va_wsU own idx C owner x y (ws_ y code mL rt))) (hyx : y = ⟨owner, x.name, x.desc⟩) (hy : owner ≠ "java/lang/invoke/MethodHandle" ∧ owner ≠ "java/lang/invoke/VarHandle" ∧ (parseMethodDescriptor x.desc).map (fun d => d.parameters.length) = some n) {c : Nat} {T : u_T} {N : Nat} (hk : knd σ a = c) (hc0 : c ≠ 0) (hc1 : c < 100) (hcl : vcl[c]? = some (C, T, N)) (hn : As.length = n) (hst : st = As.reverse ++ .ref a :: rest) (hroom : (rest.map fun v => v.category).sum ≤ 8) (hd : d' + 1 ≤ d) (hmL : mL ≤ 45) (hl : ∀ X, P X → X.l = l) (hM : ∀ r, t0 = some r → vOx l y (ws_ y code mL rt) d' (.ref a :: As) σ (xI r)) (kk : ∀ x σ1, V P emb σ1 (pc + 3) ls (.int x :: rest) (f x σ1)) (kx : ∀ a σ1, VT P emb σ1 pc ls a (h a σ1)) : V P emb σ pc ls st (bx t0 f h) := by
  rw [bx_bp]
  exact V_xcallU (em := xI) hC hdg n hw hyx hy hk hc0 hc1 hcl hn hst hroom hd hmL hl hM (fun r v σ1 he => by rcases r with p | p <;> cases he; exact kk _ _) (fun r a σ1 he => by rcases r with p | p <;> cases he; exact kx _ _)
theorem V_xcallU_L {α : Type} {P : vX → Prop} {emb : α → vRes} {cc : ByteArray} {nL : Nat} {own : String} {ret : Option FieldType} {d : Nat} {σ : vMem} {pc : Nat} {ls : List (Option Value)} {st rest : List Value} {l : Launch} {t0 : Option ((Int64 × vMem) ⊕ (Nat × vMem))} {f : Int64 → vMem → Option α} {h : Nat → vMem → Option α} {y : MethodName} {code : ByteArray} {mL : Nat} {rt : Option FieldType} {d' idx : Nat} {a : Nat} {As : List Value} {C owner : String} {x : MethodName} (hC : vPx P cc nL own ret d) (hdg : decode cc pc = .ok (.invokevirtual idx, 3)) (n : Nat) (hw : GoodIn lw_all (va_wsU own idx C owner x y (ws_ y code mL rt))) (hyx : y = ⟨owner, x.name, x.desc⟩) (hy : owner ≠ "java/lang/invoke/MethodHandle" ∧ owner ≠ "java/lang/invoke/VarHandle" ∧ (parseMethodDescriptor x.desc).map (fun d => d.parameters.length) = some n) {c : Nat} {T : u_T} {N : Nat} (hk : knd σ a = c) (hc0 : c ≠ 0) (hc1 : c < 100) (hcl : vcl[c]? = some (C, T, N)) (hn : As.length = n) (hst : st = As.reverse ++ .ref a :: rest) (hroom : (rest.map fun v => v.category).sum ≤ 8) (hd : d' + 1 ≤ d) (hmL : mL ≤ 45) (hl : ∀ X, P X → X.l = l) (hM : ∀ r, t0 = some r → vOx l y (ws_ y code mL rt) d' (.ref a :: As) σ (xL r)) (kk : ∀ x σ1, V P emb σ1 (pc + 3) ls (.long x :: rest) (f x σ1)) (kx : ∀ a σ1, VT P emb σ1 pc ls a (h a σ1)) : V P emb σ pc ls st (bx t0 f h) := by
  rw [bx_bp]
  exact V_xcallU (em := xL) hC hdg n hw hyx hy hk hc0 hc1 hcl hn hst hroom hd hmL hl hM (fun r v σ1 he => by rcases r with p | p <;> cases he; exact kk _ _) (fun r a σ1 he => by rcases r with p | p <;> cases he; exact kx _ _)
theorem V_xcallU_A {α : Type} {P : vX → Prop} {emb : α → vRes} {cc : ByteArray} {nL : Nat} {own : String} {ret : Option FieldType} {d : Nat} {σ : vMem} {pc : Nat} {ls : List (Option Value)} {st rest : List Value} {l : Launch} {t0 : Option ((Nat × vMem) ⊕ (Nat × vMem))} {f : Nat → vMem → Option α} {h : Nat → vMem → Option α} {y : MethodName} {code : ByteArray} {mL : Nat} {rt : Option FieldType} {d' idx : Nat} {a : Nat} {As : List Value} {C owner : String} {x : MethodName} (hC : vPx P cc nL own ret d) (hdg : decode cc pc = .ok (.invokevirtual idx, 3)) (n : Nat) (hw : GoodIn lw_all (va_wsU own idx C owner x y (ws_ y code mL rt))) (hyx : y = ⟨owner, x.name, x.desc⟩) (hy : owner ≠ "java/lang/invoke/MethodHandle" ∧ owner ≠ "java/lang/invoke/VarHandle" ∧ (parseMethodDescriptor x.desc).map (fun d => d.parameters.length) = some n) {c : Nat} {T : u_T} {N : Nat} (hk : knd σ a = c) (hc0 : c ≠ 0) (hc1 : c < 100) (hcl : vcl[c]? = some (C, T, N)) (hn : As.length = n) (hst : st = As.reverse ++ .ref a :: rest) (hroom : (rest.map fun v => v.category).sum ≤ 8) (hd : d' + 1 ≤ d) (hmL : mL ≤ 45) (hl : ∀ X, P X → X.l = l) (hM : ∀ r, t0 = some r → vOx l y (ws_ y code mL rt) d' (.ref a :: As) σ (xA r)) (kk : ∀ x σ1, V P emb σ1 (pc + 3) ls (.ref x :: rest) (f x σ1)) (kx : ∀ a σ1, VT P emb σ1 pc ls a (h a σ1)) : V P emb σ pc ls st (bx t0 f h) := by
  rw [bx_bp]
  exact V_xcallU (em := xA) hC hdg n hw hyx hy hk hc0 hc1 hcl hn hst hroom hd hmL hl hM (fun r v σ1 he => by rcases r with p | p <;> cases he; exact kk _ _) (fun r a σ1 he => by rcases r with p | p <;> cases he; exact kx _ _)
theorem V_xcallU_V {α : Type} {P : vX → Prop} {emb : α → vRes} {cc : ByteArray} {nL : Nat} {own : String} {ret : Option FieldType} {d : Nat} {σ : vMem} {pc : Nat} {ls : List (Option Value)} {st rest : List Value} {l : Launch} {t0 : Option (vMem ⊕ (Nat × vMem))} {f : vMem → Option α} {h : Nat → vMem → Option α} {y : MethodName} {code : ByteArray} {mL : Nat} {rt : Option FieldType} {d' idx : Nat} {a : Nat} {As : List Value} {C owner : String} {x : MethodName} (hC : vPx P cc nL own ret d) (hdg : decode cc pc = .ok (.invokevirtual idx, 3)) (n : Nat) (hw : GoodIn lw_all (va_wsU own idx C owner x y (ws_ y code mL rt))) (hyx : y = ⟨owner, x.name, x.desc⟩) (hy : owner ≠ "java/lang/invoke/MethodHandle" ∧ owner ≠ "java/lang/invoke/VarHandle" ∧ (parseMethodDescriptor x.desc).map (fun d => d.parameters.length) = some n) {c : Nat} {T : u_T} {N : Nat} (hk : knd σ a = c) (hc0 : c ≠ 0) (hc1 : c < 100) (hcl : vcl[c]? = some (C, T, N)) (hn : As.length = n) (hst : st = As.reverse ++ .ref a :: rest) (hroom : (rest.map fun v => v.category).sum ≤ 8) (hd : d' + 1 ≤ d) (hmL : mL ≤ 45) (hl : ∀ X, P X → X.l = l) (hM : ∀ r, t0 = some r → vOx l y (ws_ y code mL rt) d' (.ref a :: As) σ (xV r)) (kk : ∀ σ1, V P emb σ1 (pc + 3) ls rest (f σ1)) (kx : ∀ a σ1, VT P emb σ1 pc ls a (h a σ1)) : V P emb σ pc ls st (bxv t0 f h) := by
  rw [bxv_bp]
  exact V_xcallU (em := xV) hC hdg n hw hyx hy hk hc0 hc1 hcl hn hst hroom hd hmL hl hM (fun r v σ1 he => by rcases r with p | p <;> cases he; exact kk _) (fun r a σ1 he => by rcases r with p | p <;> cases he; exact kx _ _)
theorem V_xcallA_I {α : Type} {P : vX → Prop} {emb : α → vRes} {cc : ByteArray} {nL : Nat} {own : String} {ret : Option FieldType} {d : Nat} {σ : vMem} {pc : Nat} {ls : List (Option Value)} {st rest : List Value} {l : Launch} {t0 : Option ((Int32 × vMem) ⊕ (Nat × vMem))} {f : Int32 → vMem → Option α} {h : Nat → vMem → Option α} {y : MethodName} {code : ByteArray} {mL : Nat} {rt : Option FieldType} {d' idx : Nat} {a : Nat} {As : List Value} {C owner : String} {x : MethodName} (hC : vPx P cc nL own ret d) (hdg : decode cc pc = .ok (.invokevirtual idx, 3)) (n : Nat) (hw : GoodIn lw_all (va_wsU own idx C owner x y (ws_ y code mL rt))) (hz : Cond.declares ⟨owner, x.name, x.desc⟩ ∈ lw_tbl) (hy : owner ≠ "java/lang/invoke/MethodHandle" ∧ owner ≠ "java/lang/invoke/VarHandle" ∧ (parseMethodDescriptor x.desc).map (fun d => d.parameters.length) = some n) {c : Nat} {T : u_T} {N : Nat} (hk : knd σ a = c) (hc0 : c ≠ 0) (hc1 : c < 100) (hcl : vcl[c]? = some (C, T, N)) (hn : As.length = n) (hst : st = As.reverse ++ .ref a :: rest) (hroom : (rest.map fun v => v.category).sum ≤ 8) (hd : d' + 1 ≤ d) (hmL : mL ≤ 45) (hl : ∀ X, P X → X.l = l) (hM : ∀ r, t0 = some r → vOx l y (ws_ y code mL rt) d' (.ref a :: As) σ (xI r)) (kk : ∀ x σ1, V P emb σ1 (pc + 3) ls (.int x :: rest) (f x σ1)) (kx : ∀ a σ1, VT P emb σ1 pc ls a (h a σ1)) : V P emb σ pc ls st (bx t0 f h) := by
  rw [bx_bp]
  exact V_xcallA (em := xI) hC hdg n hw hz hy hk hc0 hc1 hcl hn hst hroom hd hmL hl hM (fun r v σ1 he => by rcases r with p | p <;> cases he; exact kk _ _) (fun r a σ1 he => by rcases r with p | p <;> cases he; exact kx _ _)
theorem V_xcallA_L {α : Type} {P : vX → Prop} {emb : α → vRes} {cc : ByteArray} {nL : Nat} {own : String} {ret : Option FieldType} {d : Nat} {σ : vMem} {pc : Nat} {ls : List (Option Value)} {st rest : List Value} {l : Launch} {t0 : Option ((Int64 × vMem) ⊕ (Nat × vMem))} {f : Int64 → vMem → Option α} {h : Nat → vMem → Option α} {y : MethodName} {code : ByteArray} {mL : Nat} {rt : Option FieldType} {d' idx : Nat} {a : Nat} {As : List Value} {C owner : String} {x : MethodName} (hC : vPx P cc nL own ret d) (hdg : decode cc pc = .ok (.invokevirtual idx, 3)) (n : Nat) (hw : GoodIn lw_all (va_wsU own idx C owner x y (ws_ y code mL rt))) (hz : Cond.declares ⟨owner, x.name, x.desc⟩ ∈ lw_tbl) (hy : owner ≠ "java/lang/invoke/MethodHandle" ∧ owner ≠ "java/lang/invoke/VarHandle" ∧ (parseMethodDescriptor x.desc).map (fun d => d.parameters.length) = some n) {c : Nat} {T : u_T} {N : Nat} (hk : knd σ a = c) (hc0 : c ≠ 0) (hc1 : c < 100) (hcl : vcl[c]? = some (C, T, N)) (hn : As.length = n) (hst : st = As.reverse ++ .ref a :: rest) (hroom : (rest.map fun v => v.category).sum ≤ 8) (hd : d' + 1 ≤ d) (hmL : mL ≤ 45) (hl : ∀ X, P X → X.l = l) (hM : ∀ r, t0 = some r → vOx l y (ws_ y code mL rt) d' (.ref a :: As) σ (xL r)) (kk : ∀ x σ1, V P emb σ1 (pc + 3) ls (.long x :: rest) (f x σ1)) (kx : ∀ a σ1, VT P emb σ1 pc ls a (h a σ1)) : V P emb σ pc ls st (bx t0 f h) := by
  rw [bx_bp]
  exact V_xcallA (em := xL) hC hdg n hw hz hy hk hc0 hc1 hcl hn hst hroom hd hmL hl hM (fun r v σ1 he => by rcases r with p | p <;> cases he; exact kk _ _) (fun r a σ1 he => by rcases r with p | p <;> cases he; exact kx _ _)
theorem V_xcallA_A {α : Type} {P : vX → Prop} {emb : α → vRes} {cc : ByteArray} {nL : Nat} {own : String} {ret : Option FieldType} {d : Nat} {σ : vMem} {pc : Nat} {ls : List (Option Value)} {st rest : List Value} {l : Launch} {t0 : Option ((Nat × vMem) ⊕ (Nat × vMem))} {f : Nat → vMem → Option α} {h : Nat → vMem → Option α} {y : MethodName} {code : ByteArray} {mL : Nat} {rt : Option FieldType} {d' idx : Nat} {a : Nat} {As : List Value} {C owner : String} {x : MethodName} (hC : vPx P cc nL own ret d) (hdg : decode cc pc = .ok (.invokevirtual idx, 3)) (n : Nat) (hw : GoodIn lw_all (va_wsU own idx C owner x y (ws_ y code mL rt))) (hz : Cond.declares ⟨owner, x.name, x.desc⟩ ∈ lw_tbl) (hy : owner ≠ "java/lang/invoke/MethodHandle" ∧ owner ≠ "java/lang/invoke/VarHandle" ∧ (parseMethodDescriptor x.desc).map (fun d => d.parameters.length) = some n) {c : Nat} {T : u_T} {N : Nat} (hk : knd σ a = c) (hc0 : c ≠ 0) (hc1 : c < 100) (hcl : vcl[c]? = some (C, T, N)) (hn : As.length = n) (hst : st = As.reverse ++ .ref a :: rest) (hroom : (rest.map fun v => v.category).sum ≤ 8) (hd : d' + 1 ≤ d) (hmL : mL ≤ 45) (hl : ∀ X, P X → X.l = l) (hM : ∀ r, t0 = some r → vOx l y (ws_ y code mL rt) d' (.ref a :: As) σ (xA r)) (kk : ∀ x σ1, V P emb σ1 (pc + 3) ls (.ref x :: rest) (f x σ1)) (kx : ∀ a σ1, VT P emb σ1 pc ls a (h a σ1)) : V P emb σ pc ls st (bx t0 f h) := by
  rw [bx_bp]
  exact V_xcallA (em := xA) hC hdg n hw hz hy hk hc0 hc1 hcl hn hst hroom hd hmL hl hM (fun r v σ1 he => by rcases r with p | p <;> cases he; exact kk _ _) (fun r a σ1 he => by rcases r with p | p <;> cases he; exact kx _ _)
theorem V_xcallA_V {α : Type} {P : vX → Prop} {emb : α → vRes} {cc : ByteArray} {nL : Nat} {own : String} {ret : Option FieldType} {d : Nat} {σ : vMem} {pc : Nat} {ls : List (Option Value)} {st rest : List Value} {l : Launch} {t0 : Option (vMem ⊕ (Nat × vMem))} {f : vMem → Option α} {h : Nat → vMem → Option α} {y : MethodName} {code : ByteArray} {mL : Nat} {rt : Option FieldType} {d' idx : Nat} {a : Nat} {As : List Value} {C owner : String} {x : MethodName} (hC : vPx P cc nL own ret d) (hdg : decode cc pc = .ok (.invokevirtual idx, 3)) (n : Nat) (hw : GoodIn lw_all (va_wsU own idx C owner x y (ws_ y code mL rt))) (hz : Cond.declares ⟨owner, x.name, x.desc⟩ ∈ lw_tbl) (hy : owner ≠ "java/lang/invoke/MethodHandle" ∧ owner ≠ "java/lang/invoke/VarHandle" ∧ (parseMethodDescriptor x.desc).map (fun d => d.parameters.length) = some n) {c : Nat} {T : u_T} {N : Nat} (hk : knd σ a = c) (hc0 : c ≠ 0) (hc1 : c < 100) (hcl : vcl[c]? = some (C, T, N)) (hn : As.length = n) (hst : st = As.reverse ++ .ref a :: rest) (hroom : (rest.map fun v => v.category).sum ≤ 8) (hd : d' + 1 ≤ d) (hmL : mL ≤ 45) (hl : ∀ X, P X → X.l = l) (hM : ∀ r, t0 = some r → vOx l y (ws_ y code mL rt) d' (.ref a :: As) σ (xV r)) (kk : ∀ σ1, V P emb σ1 (pc + 3) ls rest (f σ1)) (kx : ∀ a σ1, VT P emb σ1 pc ls a (h a σ1)) : V P emb σ pc ls st (bxv t0 f h) := by
  rw [bxv_bp]
  exact V_xcallA (em := xV) hC hdg n hw hz hy hk hc0 hc1 hcl hn hst hroom hd hmL hl hM (fun r v σ1 he => by rcases r with p | p <;> cases he; exact kk _) (fun r a σ1 he => by rcases r with p | p <;> cases he; exact kx _ _)
theorem V_xcallS_I {α : Type} {P : vX → Prop} {emb : α → vRes} {cc : ByteArray} {nL : Nat} {own : String} {ret : Option FieldType} {d : Nat} {σ : vMem} {pc : Nat} {ls : List (Option Value)} {st rest : List Value} {l : Launch} {t0 : Option ((Int32 × vMem) ⊕ (Nat × vMem))} {f : Int32 → vMem → Option α} {h : Nat → vMem → Option α} {y : MethodName} {code : ByteArray} {mL : Nat} {rt : Option FieldType} {d' idx : Nat} {As : List Value}  (hC : vPx P cc nL own ret d) (hdg : decode cc pc = .ok (.invokestatic idx, 3)) (n : Nat) (hw : GoodIn lw_all (va_wsS own idx y (ws_ y code mL rt))) (hy : y.cls ≠ "java/lang/invoke/MethodHandle" ∧ y.cls ≠ "java/lang/invoke/VarHandle" ∧ (parseMethodDescriptor y.desc).map (fun d => d.parameters.length) = some n) (hn : As.length = n) (hst : st = As.reverse ++ rest) (hroom : (rest.map fun v => v.category).sum ≤ 8) (hd : d' + 1 ≤ d) (hmL : mL ≤ 45) (hl : ∀ X, P X → X.l = l) (hM : ∀ r, t0 = some r → vOx l y (ws_ y code mL rt) d' As σ (xI r)) (kk : ∀ x σ1, V P emb σ1 (pc + 3) ls (.int x :: rest) (f x σ1)) (kx : ∀ a σ1, VT P emb σ1 pc ls a (h a σ1)) : V P emb σ pc ls st (bx t0 f h) := by
  rw [bx_bp]
  exact V_xcallS (em := xI) hC hdg n hw hy hn hst hroom hd hmL hl hM (fun r v σ1 he => by rcases r with p | p <;> cases he; exact kk _ _) (fun r a σ1 he => by rcases r with p | p <;> cases he; exact kx _ _)
theorem V_xcallS_L {α : Type} {P : vX → Prop} {emb : α → vRes} {cc : ByteArray} {nL : Nat} {own : String} {ret : Option FieldType} {d : Nat} {σ : vMem} {pc : Nat} {ls : List (Option Value)} {st rest : List Value} {l : Launch} {t0 : Option ((Int64 × vMem) ⊕ (Nat × vMem))} {f : Int64 → vMem → Option α} {h : Nat → vMem → Option α} {y : MethodName} {code : ByteArray} {mL : Nat} {rt : Option FieldType} {d' idx : Nat} {As : List Value}  (hC : vPx P cc nL own ret d) (hdg : decode cc pc = .ok (.invokestatic idx, 3)) (n : Nat) (hw : GoodIn lw_all (va_wsS own idx y (ws_ y code mL rt))) (hy : y.cls ≠ "java/lang/invoke/MethodHandle" ∧ y.cls ≠ "java/lang/invoke/VarHandle" ∧ (parseMethodDescriptor y.desc).map (fun d => d.parameters.length) = some n) (hn : As.length = n) (hst : st = As.reverse ++ rest) (hroom : (rest.map fun v => v.category).sum ≤ 8) (hd : d' + 1 ≤ d) (hmL : mL ≤ 45) (hl : ∀ X, P X → X.l = l) (hM : ∀ r, t0 = some r → vOx l y (ws_ y code mL rt) d' As σ (xL r)) (kk : ∀ x σ1, V P emb σ1 (pc + 3) ls (.long x :: rest) (f x σ1)) (kx : ∀ a σ1, VT P emb σ1 pc ls a (h a σ1)) : V P emb σ pc ls st (bx t0 f h) := by
  rw [bx_bp]
  exact V_xcallS (em := xL) hC hdg n hw hy hn hst hroom hd hmL hl hM (fun r v σ1 he => by rcases r with p | p <;> cases he; exact kk _ _) (fun r a σ1 he => by rcases r with p | p <;> cases he; exact kx _ _)
theorem V_xcallS_A {α : Type} {P : vX → Prop} {emb : α → vRes} {cc : ByteArray} {nL : Nat} {own : String} {ret : Option FieldType} {d : Nat} {σ : vMem} {pc : Nat} {ls : List (Option Value)} {st rest : List Value} {l : Launch} {t0 : Option ((Nat × vMem) ⊕ (Nat × vMem))} {f : Nat → vMem → Option α} {h : Nat → vMem → Option α} {y : MethodName} {code : ByteArray} {mL : Nat} {rt : Option FieldType} {d' idx : Nat} {As : List Value}  (hC : vPx P cc nL own ret d) (hdg : decode cc pc = .ok (.invokestatic idx, 3)) (n : Nat) (hw : GoodIn lw_all (va_wsS own idx y (ws_ y code mL rt))) (hy : y.cls ≠ "java/lang/invoke/MethodHandle" ∧ y.cls ≠ "java/lang/invoke/VarHandle" ∧ (parseMethodDescriptor y.desc).map (fun d => d.parameters.length) = some n) (hn : As.length = n) (hst : st = As.reverse ++ rest) (hroom : (rest.map fun v => v.category).sum ≤ 8) (hd : d' + 1 ≤ d) (hmL : mL ≤ 45) (hl : ∀ X, P X → X.l = l) (hM : ∀ r, t0 = some r → vOx l y (ws_ y code mL rt) d' As σ (xA r)) (kk : ∀ x σ1, V P emb σ1 (pc + 3) ls (.ref x :: rest) (f x σ1)) (kx : ∀ a σ1, VT P emb σ1 pc ls a (h a σ1)) : V P emb σ pc ls st (bx t0 f h) := by
  rw [bx_bp]
  exact V_xcallS (em := xA) hC hdg n hw hy hn hst hroom hd hmL hl hM (fun r v σ1 he => by rcases r with p | p <;> cases he; exact kk _ _) (fun r a σ1 he => by rcases r with p | p <;> cases he; exact kx _ _)
theorem V_xcallS_V {α : Type} {P : vX → Prop} {emb : α → vRes} {cc : ByteArray} {nL : Nat} {own : String} {ret : Option FieldType} {d : Nat} {σ : vMem} {pc : Nat} {ls : List (Option Value)} {st rest : List Value} {l : Launch} {t0 : Option (vMem ⊕ (Nat × vMem))} {f : vMem → Option α} {h : Nat → vMem → Option α} {y : MethodName} {code : ByteArray} {mL : Nat} {rt : Option FieldType} {d' idx : Nat} {As : List Value}  (hC : vPx P cc nL own ret d) (hdg : decode cc pc = .ok (.invokestatic idx, 3)) (n : Nat) (hw : GoodIn lw_all (va_wsS own idx y (ws_ y code mL rt))) (hy : y.cls ≠ "java/lang/invoke/MethodHandle" ∧ y.cls ≠ "java/lang/invoke/VarHandle" ∧ (parseMethodDescriptor y.desc).map (fun d => d.parameters.length) = some n) (hn : As.length = n) (hst : st = As.reverse ++ rest) (hroom : (rest.map fun v => v.category).sum ≤ 8) (hd : d' + 1 ≤ d) (hmL : mL ≤ 45) (hl : ∀ X, P X → X.l = l) (hM : ∀ r, t0 = some r → vOx l y (ws_ y code mL rt) d' As σ (xV r)) (kk : ∀ σ1, V P emb σ1 (pc + 3) ls rest (f σ1)) (kx : ∀ a σ1, VT P emb σ1 pc ls a (h a σ1)) : V P emb σ pc ls st (bxv t0 f h) := by
  rw [bxv_bp]
  exact V_xcallS (em := xV) hC hdg n hw hy hn hst hroom hd hmL hl hM (fun r v σ1 he => by rcases r with p | p <;> cases he; exact kk _) (fun r a σ1 he => by rcases r with p | p <;> cases he; exact kx _ _)
theorem V_wcallS_I {α : Type} {P : vX → Prop} {emb : α → vRes} {cc : ByteArray} {nL : Nat} {own : String} {ret : Option FieldType} {d : Nat} {σ : vMem} {pc : Nat} {ls : List (Option Value)} {st rest : List Value} {l : Launch} {t0 : Option (Int32 × vMem)} {f : Int32 → vMem → Option α} {y : MethodName} {code : ByteArray} {mL : Nat} {rt : Option FieldType} {hh : List (Nat × Nat × Nat × Nat)} {d' idx : Nat} {As : List Value}  (hC : vPx P cc nL own ret d) (hdg : decode cc pc = .ok (.invokestatic idx, 3)) (n : Nat) (hw : GoodIn lw_all (va_wsS own idx y (wsW_ y code mL rt hh))) (hy : y.cls ≠ "java/lang/invoke/MethodHandle" ∧ y.cls ≠ "java/lang/invoke/VarHandle" ∧ (parseMethodDescriptor y.desc).map (fun d => d.parameters.length) = some n) (hn : As.length = n) (hst : st = As.reverse ++ rest) (hroom : (rest.map fun v => v.category).sum ≤ 8) (hd : d' + 1 ≤ d) (hmL : mL ≤ 45) (hl : ∀ X, P X → X.l = l) (hM : ∀ r, t0 = some r → vOx l y (wsW_ y code mL rt hh) d' As σ (nxI r)) (kk : ∀ x σ1, V P emb σ1 (pc + 3) ls (.int x :: rest) (f x σ1)) : V P emb σ pc ls st (bd t0 f) :=
  V_wcallS (em := nxI) (f := fun p => f p.1 p.2) hC hdg n hw hy hn hst hroom hd hmL hl hM (fun r v σ1 he => by cases he; exact kk _ _) (fun r a σ1 he => by cases he)
