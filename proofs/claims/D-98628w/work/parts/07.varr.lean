/-! ROWS: arrays and new cells -/
set_option maxRecDepth 100000
/-- a new cell, named with the memory behind it -/
def nw {α : Type} (σ : vMem) (k n : Nat) (f : Nat → vMem → Option α) : Option α := if mn σ < SB then f (mn σ) (alc σ k n) else none
def nwa {α : Type} (σ : vMem) (k : Nat) (i : Int32) (f : Nat → vMem → Option α) : Option α := if ¬ i < 0 ∧ mn σ < SB ∧ i.toNatClampNeg ≤ 1000000 then f (mn σ) (alc σ k i.toNatClampNeg) else none
def nwc {α : Type} (σ : vMem) (a k : Nat) (f : Nat → vMem → Option α) : Option α := if knd σ a = k ∧ mn σ < SB ∧ (List.range (len σ a)).all (fun j => fits .byte (.int (gi σ a j))) = true then f (mn σ) (cln σ a) else none
def isW (σ : vMem) (o : Option Nat) : Bool := match o with
  | some y => knd σ y == 2
  | none => true
def cpyI {α : Type} (σ : vMem) (a : Nat) (sp : Int32) (b : Nat) (dp n : Int32) (f : vMem → Option α) : Option α := if (knd σ a = 105 ∧ knd σ b = 105) ∧ ¬ sp < 0 ∧ ¬ dp < 0 ∧ ¬ n < 0 ∧ sp.toNatClampNeg + n.toNatClampNeg ≤ len σ a ∧ dp.toNatClampNeg + n.toNatClampNeg ≤ len σ b then f (cpi σ a sp.toNatClampNeg b dp.toNatClampNeg n.toNatClampNeg) else none
def cpyR {α : Type} (σ : vMem) (a : Nat) (sp : Int32) (b : Nat) (dp n : Int32) (f : vMem → Option α) : Option α := if (knd σ a = 110 ∧ knd σ b = 110) ∧ ¬ sp < 0 ∧ ¬ dp < 0 ∧ ¬ n < 0 ∧ sp.toNatClampNeg + n.toNatClampNeg ≤ len σ a ∧ dp.toNatClampNeg + n.toNatClampNeg ≤ len σ b ∧ (List.range n.toNatClampNeg).all (fun i => isW σ (gr σ a (sp.toNatClampNeg + i))) = true then f (cpr σ a sp.toNatClampNeg b dp.toNatClampNeg n.toNatClampNeg) else none
theorem gi_si (σ : vMem) (a k : Nat) (x : Int32) : gi (si σ a k x) a = upd (gi σ a) k x := by
  funext j
  show (if a = a ∧ j = k then x else σ.1 a j) = (if j = k then x else gi σ a j)
  by_cases h : j = k
  · rw [if_pos ⟨rfl, h⟩, if_pos h]
  · rw [if_neg (fun q => h q.2), if_neg h]
    rfl
theorem gl_sl (σ : vMem) (a k : Nat) (x : Int64) : gl (sl σ a k x) a = vp_updL (gl σ a) k x := by
  funext j
  show (if a = a ∧ j = k then x else σ.2.1 a j) = (if j = k then x else gl σ a j)
  by_cases h : j = k
  · rw [if_pos ⟨rfl, h⟩, if_pos h]
  · rw [if_neg (fun q => h q.2), if_neg h]
    rfl
theorem gr_sr (E : vEnv) (σ : vMem) (a k : Nat) (x : Option Nat) : (fun j => (gr (sr σ a k x) a j).map (adr E)) = va_up (fun j => (gr σ a j).map (adr E)) k (x.map (adr E)) := by
  funext j
  show (if a = a ∧ j = k then x else σ.2.2.1 a j).map (adr E) = (if j = k then x.map (adr E) else (gr σ a j).map (adr E))
  by_cases h : j = k
  · rw [if_pos ⟨rfl, h⟩, if_pos h]
  · rw [if_neg (fun q => h q.2), if_neg h]
    rfl
section VARR
variable {α : Type} {P : vX → Prop} {emb : α → vRes} {cc : ByteArray} {nL : Nat} {own : String} {ret : Option FieldType} {d : Nat} {σ : vMem} {pc : Nat} {ls : List (Option Value)} {st : List Value} {t : Option α}
theorem V_iald {a : Nat} {i : Int32} (hC : vPx P cc nL own ret d) (hdg : decode cc pc = .ok (.iaload, 1)) (kk : V P emb σ (pc + 1) ls (.int (gi σ a i.toNatClampNeg) :: st) t) : V P emb σ pc ls (.int i :: .ref a :: st) (cka σ a 105 i t) := by
  refine V_cka (fun hk hi => ?_)
  intro r hr
  obtain ⟨h1, h2, h3⟩ := kk r hr
  refine ⟨h1, h2, fun X hX g1 g2 g3 g4 H locs L hR hS hL => ?_⟩
  have h0 : knd σ a ≠ 0 := by rw [hk]; decide
  exact va_iald (hC X hX).exec (hC X hX).code (hC X hX).kn.1 hR.P a 4 (by rw [wl_get (hR.lt h0), hR.adr h0, ent_int hk (by decide) (by decide)]) rfl hi hdg (h3 X hX g1 g2 g3 g4 H locs L hR hS hL)
theorem V_zald {a : Nat} {i : Int32} (hC : vPx P cc nL own ret d) (hdg : decode cc pc = .ok (.baload, 1)) (kk : V P emb σ (pc + 1) ls (.int (gi σ a i.toNatClampNeg) :: st) t) : V P emb σ pc ls (.int i :: .ref a :: st) (cka σ a 101 i t) := by
  refine V_cka (fun hk hi => ?_)
  intro r hr
  obtain ⟨h1, h2, h3⟩ := kk r hr
  refine ⟨h1, h2, fun X hX g1 g2 g3 g4 H locs L hR hS hL => ?_⟩
  have h0 : knd σ a ≠ 0 := by rw [hk]; decide
  exact va_zald (hC X hX).exec (hC X hX).code (hC X hX).kn.1 hR.P a 0 (by rw [wl_get (hR.lt h0), hR.adr h0, ent_int hk (by decide) (by decide)]) rfl hi hdg (h3 X hX g1 g2 g3 g4 H locs L hR hS hL)
theorem V_bald {a : Nat} {i : Int32} (hC : vPx P cc nL own ret d) (hdg : decode cc pc = .ok (.baload, 1)) (kk : V P emb σ (pc + 1) ls (.int (gi σ a i.toNatClampNeg) :: st) t) : V P emb σ pc ls (.int i :: .ref a :: st) (cka σ a 102 i t) := by
  refine V_cka (fun hk hi => ?_)
  intro r hr
  obtain ⟨h1, h2, h3⟩ := kk r hr
  refine ⟨h1, h2, fun X hX g1 g2 g3 g4 H locs L hR hS hL => ?_⟩
  have h0 : knd σ a ≠ 0 := by rw [hk]; decide
  exact va_bald (hC X hX).exec (hC X hX).code (hC X hX).kn.1 hR.P a 1 (by rw [wl_get (hR.lt h0), hR.adr h0, ent_int hk (by decide) (by decide)]) rfl hi hdg (h3 X hX g1 g2 g3 g4 H locs L hR hS hL)
theorem V_cald {a : Nat} {i : Int32} (hC : vPx P cc nL own ret d) (hdg : decode cc pc = .ok (.caload, 1)) (kk : V P emb σ (pc + 1) ls (.int (gi σ a i.toNatClampNeg) :: st) t) : V P emb σ pc ls (.int i :: .ref a :: st) (cka σ a 103 i t) := by
  refine V_cka (fun hk hi => ?_)
  intro r hr
  obtain ⟨h1, h2, h3⟩ := kk r hr
  refine ⟨h1, h2, fun X hX g1 g2 g3 g4 H locs L hR hS hL => ?_⟩
  have h0 : knd σ a ≠ 0 := by rw [hk]; decide
  exact va_cald (hC X hX).exec (hC X hX).code (hC X hX).kn.1 hR.P a 2 (by rw [wl_get (hR.lt h0), hR.adr h0, ent_int hk (by decide) (by decide)]) rfl hi hdg (h3 X hX g1 g2 g3 g4 H locs L hR hS hL)
theorem V_sald {a : Nat} {i : Int32} (hC : vPx P cc nL own ret d) (hdg : decode cc pc = .ok (.saload, 1)) (kk : V P emb σ (pc + 1) ls (.int (gi σ a i.toNatClampNeg) :: st) t) : V P emb σ pc ls (.int i :: .ref a :: st) (cka σ a 104 i t) := by
  refine V_cka (fun hk hi => ?_)
  intro r hr
  obtain ⟨h1, h2, h3⟩ := kk r hr
  refine ⟨h1, h2, fun X hX g1 g2 g3 g4 H locs L hR hS hL => ?_⟩
  have h0 : knd σ a ≠ 0 := by rw [hk]; decide
  exact va_sald (hC X hX).exec (hC X hX).code (hC X hX).kn.1 hR.P a 3 (by rw [wl_get (hR.lt h0), hR.adr h0, ent_int hk (by decide) (by decide)]) rfl hi hdg (h3 X hX g1 g2 g3 g4 H locs L hR hS hL)
theorem V_lald {a : Nat} {i : Int32} (hC : vPx P cc nL own ret d) (hdg : decode cc pc = .ok (.laload, 1)) (kk : V P emb σ (pc + 1) ls (.long (gl σ a i.toNatClampNeg) :: st) t) : V P emb σ pc ls (.int i :: .ref a :: st) (cka σ a 106 i t) := by
  refine V_cka (fun hk hi => ?_)
  intro r hr
  obtain ⟨h1, h2, h3⟩ := kk r hr
  refine ⟨h1, h2, fun X hX g1 g2 g3 g4 H locs L hR hS hL => ?_⟩
  have h0 : knd σ a ≠ 0 := by rw [hk]; decide
  exact va_lald (hC X hX).exec (hC X hX).code (hC X hX).kn.1 hR.P a 5 (by rw [wl_get (hR.lt h0), hR.adr h0, ent_long hk]) rfl hi hdg (h3 X hX g1 g2 g3 g4 H locs L hR hS hL)
theorem V_aald {a k t0 : Nat} {ty : FieldType} {i : Int32} (hC : vPx P cc nL own ret d) (hdg : decode cc pc = .ok (.aaload, 1)) (hk1 : 110 ≤ k) (ht : ∀ dA : Nat → ClassId, (vtys dA)[t0]? = some (dA k, ty)) (hty : ty.isReference = true) (kk : V P emb σ (pc + 1) ls (va_rf (gr σ a i.toNatClampNeg) :: st) t) : V P emb σ pc ls (.int i :: .ref a :: st) (cka σ a k i t) := by
  refine V_cka (fun hk hi => ?_)
  intro r hr
  obtain ⟨h1, h2, h3⟩ := kk r hr
  refine ⟨h1, h2, fun X hX g1 g2 g3 g4 H locs L hR hS hL => ?_⟩
  have h0 : knd σ a ≠ 0 := by rw [hk]; omega
  have he : (wl X.E X.dA σ)[a]? = some (adr X.E a, .inl (X.dA k, len σ a, .inr (.inr (.inr (.inr (fun j => (gr σ a j).map (adr X.E))))))) := by rw [wl_get (hR.lt h0), hR.adr h0, ent_ref hk hk1]
  have hlt : i.toNatClampNeg < len σ a := Nat.not_le.mp fun q => hi (Or.inr q)
  have k9 := h3 X hX g1 g2 g3 g4 H locs L hR hS hL
  rw [List.map_cons, rv_rf] at k9
  exact W.aald (v := va_rf ((gr σ a i.toNatClampNeg).map (adr X.E))) (ty := ty) (hC X hX).exec (hC X hX).code (hR.P a _ he) (((hC X hX).kn.1.2 t0 _ (ht _)).1 (len σ a) (fun j => va_rf ((gr σ a j).map (adr X.E)))) hty (fun q => by cases q) (by show ¬ (i < 0 ∨ (arrV _ _ _).slots.size ≤ _); rw [arrV_size]; exact hi) (by show (arrV _ _ _).slots[_]? = _; rw [arrV_read _ _ hlt]) rfl rfl hdg k9
theorem V_alen {a k t0 : Nat} {ty : FieldType} (hC : vPx P cc nL own ret d) (hdg : decode cc pc = .ok (.arraylength, 1)) (hk1 : 100 ≤ k) (ht : ∀ dA : Nat → ClassId, (vtys dA)[t0]? = some (dA k, ty)) (kk : V P emb σ (pc + 1) ls (.int (Int32.ofNat (len σ a)) :: st) t) : V P emb σ pc ls (.ref a :: st) (cko σ a [k] t) := by
  refine V_cko (fun hm => ?_)
  have hk : knd σ a = k := List.mem_singleton.mp hm
  intro r hr
  obtain ⟨h1, h2, h3⟩ := kk r hr
  refine ⟨h1, h2, fun X hX g1 g2 g3 g4 H locs L hR hS hL => ?_⟩
  have h0 : knd σ a ≠ 0 := by rw [hk]; omega
  have he : (wl X.E X.dA σ)[a]? = some (adr X.E a, .inl (X.dA k, arrc X.E σ a)) := by
    rw [wl_get (hR.lt h0), hR.adr h0]
    unfold ent
    rw [hk, if_neg (by omega)]
  exact va_alen (v := Int32.ofNat (len σ a)) (hC X hX).exec (hC X hX).code (hC X hX).kn.1 hR.P a t0 he (ht _) rfl hdg (h3 X hX g1 g2 g3 g4 H locs L hR hS hL)
theorem V_iast {a : Nat} {i : Int32} {x : Int32} {f : vMem → Option α} (hC : vPx P cc nL own ret d) (hdg : decode cc pc = .ok (.iastore, 1)) (kk : ∀ σ1, V P emb σ1 (pc + 1) ls st (f σ1)) : V P emb σ pc ls (.int x :: .int i :: .ref a :: st) (cka σ a 105 i (vl (si σ a i.toNatClampNeg x) f)) := by
  refine V_cka (fun hk hi => ?_)
  intro r hr
  obtain ⟨h1, h2, h3⟩ := kk (si σ a i.toNatClampNeg x) r hr
  have hup := vUp_i σ a i.toNatClampNeg x
  refine ⟨h1, h2, fun X hX g1 g2 g3 g4 H locs L hR hS hL => ?_⟩
  have h0 : knd σ a ≠ 0 := by rw [hk]; decide
  have ha := hR.lt h0
  refine va_iast (hC X hX).exec (hC X hX).code (hC X hX).kn.1 hR.P wl_D hS a 4 (by rw [wl_get ha, hR.adr h0, ent_int hk (by decide) (by decide)]) rfl hi hdg (fun H1 locs1 hP1 hD1 hS1 => W_size fun hz => ?_)
  rw [hR.adr h0] at hP1
  rw [(hC X hX).hs] at hz
  exact h3 X hX g1 g2 g3 g4 H1 locs1 L (vRel_set hR ha hP1 (by omega) rfl hR.2.2.1 (by rw [ent_int (show knd (si σ a i.toNatClampNeg x) a = 105 from hk) (by decide) (by decide), gi_si]; rfl) (fun b hb => vUp_ent hup hb)) hS1 hL
theorem V_zast {a : Nat} {i : Int32} {x : Int32} {f : vMem → Option α} (hC : vPx P cc nL own ret d) (hdg : decode cc pc = .ok (.bastore, 1)) (kk : ∀ σ1, V P emb σ1 (pc + 1) ls st (f σ1)) : V P emb σ pc ls (.int x :: .int i :: .ref a :: st) (cka σ a 101 i (vl (si σ a i.toNatClampNeg (vp_nar .boolean x)) f)) := by
  refine V_cka (fun hk hi => ?_)
  intro r hr
  obtain ⟨h1, h2, h3⟩ := kk (si σ a i.toNatClampNeg (vp_nar .boolean x)) r hr
  have hup := vUp_i σ a i.toNatClampNeg (vp_nar .boolean x)
  refine ⟨h1, h2, fun X hX g1 g2 g3 g4 H locs L hR hS hL => ?_⟩
  have h0 : knd σ a ≠ 0 := by rw [hk]; decide
  have ha := hR.lt h0
  refine va_zast (hC X hX).exec (hC X hX).code (hC X hX).kn.1 hR.P wl_D hS a 0 (by rw [wl_get ha, hR.adr h0, ent_int hk (by decide) (by decide)]) rfl hi hdg (fun H1 locs1 hP1 hD1 hS1 => W_size fun hz => ?_)
  rw [hR.adr h0] at hP1
  rw [(hC X hX).hs] at hz
  exact h3 X hX g1 g2 g3 g4 H1 locs1 L (vRel_set hR ha hP1 (by omega) rfl hR.2.2.1 (by rw [ent_int (show knd (si σ a i.toNatClampNeg (vp_nar .boolean x)) a = 101 from hk) (by decide) (by decide), gi_si]; rfl) (fun b hb => vUp_ent hup hb)) hS1 hL
theorem V_bast {a : Nat} {i : Int32} {x : Int32} {f : vMem → Option α} (hC : vPx P cc nL own ret d) (hdg : decode cc pc = .ok (.bastore, 1)) (kk : ∀ σ1, V P emb σ1 (pc + 1) ls st (f σ1)) : V P emb σ pc ls (.int x :: .int i :: .ref a :: st) (cka σ a 102 i (vl (si σ a i.toNatClampNeg (vp_nar .byte x)) f)) := by
  refine V_cka (fun hk hi => ?_)
  intro r hr
  obtain ⟨h1, h2, h3⟩ := kk (si σ a i.toNatClampNeg (vp_nar .byte x)) r hr
  have hup := vUp_i σ a i.toNatClampNeg (vp_nar .byte x)
  refine ⟨h1, h2, fun X hX g1 g2 g3 g4 H locs L hR hS hL => ?_⟩
  have h0 : knd σ a ≠ 0 := by rw [hk]; decide
  have ha := hR.lt h0
  refine va_bast (hC X hX).exec (hC X hX).code (hC X hX).kn.1 hR.P wl_D hS a 1 (by rw [wl_get ha, hR.adr h0, ent_int hk (by decide) (by decide)]) rfl hi hdg (fun H1 locs1 hP1 hD1 hS1 => W_size fun hz => ?_)
  rw [hR.adr h0] at hP1
  rw [(hC X hX).hs] at hz
  exact h3 X hX g1 g2 g3 g4 H1 locs1 L (vRel_set hR ha hP1 (by omega) rfl hR.2.2.1 (by rw [ent_int (show knd (si σ a i.toNatClampNeg (vp_nar .byte x)) a = 102 from hk) (by decide) (by decide), gi_si]; rfl) (fun b hb => vUp_ent hup hb)) hS1 hL
theorem V_cast {a : Nat} {i : Int32} {x : Int32} {f : vMem → Option α} (hC : vPx P cc nL own ret d) (hdg : decode cc pc = .ok (.castore, 1)) (kk : ∀ σ1, V P emb σ1 (pc + 1) ls st (f σ1)) : V P emb σ pc ls (.int x :: .int i :: .ref a :: st) (cka σ a 103 i (vl (si σ a i.toNatClampNeg (vp_nar .char x)) f)) := by
  refine V_cka (fun hk hi => ?_)
  intro r hr
  obtain ⟨h1, h2, h3⟩ := kk (si σ a i.toNatClampNeg (vp_nar .char x)) r hr
  have hup := vUp_i σ a i.toNatClampNeg (vp_nar .char x)
  refine ⟨h1, h2, fun X hX g1 g2 g3 g4 H locs L hR hS hL => ?_⟩
  have h0 : knd σ a ≠ 0 := by rw [hk]; decide
  have ha := hR.lt h0
  refine va_cast (hC X hX).exec (hC X hX).code (hC X hX).kn.1 hR.P wl_D hS a 2 (by rw [wl_get ha, hR.adr h0, ent_int hk (by decide) (by decide)]) rfl hi hdg (fun H1 locs1 hP1 hD1 hS1 => W_size fun hz => ?_)
  rw [hR.adr h0] at hP1
  rw [(hC X hX).hs] at hz
  exact h3 X hX g1 g2 g3 g4 H1 locs1 L (vRel_set hR ha hP1 (by omega) rfl hR.2.2.1 (by rw [ent_int (show knd (si σ a i.toNatClampNeg (vp_nar .char x)) a = 103 from hk) (by decide) (by decide), gi_si]; rfl) (fun b hb => vUp_ent hup hb)) hS1 hL
theorem V_sast {a : Nat} {i : Int32} {x : Int32} {f : vMem → Option α} (hC : vPx P cc nL own ret d) (hdg : decode cc pc = .ok (.sastore, 1)) (kk : ∀ σ1, V P emb σ1 (pc + 1) ls st (f σ1)) : V P emb σ pc ls (.int x :: .int i :: .ref a :: st) (cka σ a 104 i (vl (si σ a i.toNatClampNeg (vp_nar .short x)) f)) := by
  refine V_cka (fun hk hi => ?_)
  intro r hr
  obtain ⟨h1, h2, h3⟩ := kk (si σ a i.toNatClampNeg (vp_nar .short x)) r hr
  have hup := vUp_i σ a i.toNatClampNeg (vp_nar .short x)
  refine ⟨h1, h2, fun X hX g1 g2 g3 g4 H locs L hR hS hL => ?_⟩
  have h0 : knd σ a ≠ 0 := by rw [hk]; decide
  have ha := hR.lt h0
  refine va_sast (hC X hX).exec (hC X hX).code (hC X hX).kn.1 hR.P wl_D hS a 3 (by rw [wl_get ha, hR.adr h0, ent_int hk (by decide) (by decide)]) rfl hi hdg (fun H1 locs1 hP1 hD1 hS1 => W_size fun hz => ?_)
  rw [hR.adr h0] at hP1
  rw [(hC X hX).hs] at hz
  exact h3 X hX g1 g2 g3 g4 H1 locs1 L (vRel_set hR ha hP1 (by omega) rfl hR.2.2.1 (by rw [ent_int (show knd (si σ a i.toNatClampNeg (vp_nar .short x)) a = 104 from hk) (by decide) (by decide), gi_si]; rfl) (fun b hb => vUp_ent hup hb)) hS1 hL
theorem V_last {a : Nat} {i : Int32} {x : Int64} {f : vMem → Option α} (hC : vPx P cc nL own ret d) (hdg : decode cc pc = .ok (.lastore, 1)) (kk : ∀ σ1, V P emb σ1 (pc + 1) ls st (f σ1)) : V P emb σ pc ls (.long x :: .int i :: .ref a :: st) (cka σ a 106 i (vl (sl σ a i.toNatClampNeg x) f)) := by
  refine V_cka (fun hk hi => ?_)
  intro r hr
  obtain ⟨h1, h2, h3⟩ := kk (sl σ a i.toNatClampNeg x) r hr
  have hup := vUp_l σ a i.toNatClampNeg x
  refine ⟨h1, h2, fun X hX g1 g2 g3 g4 H locs L hR hS hL => ?_⟩
  have h0 : knd σ a ≠ 0 := by rw [hk]; decide
  have ha := hR.lt h0
  refine va_last (hC X hX).exec (hC X hX).code (hC X hX).kn.1 hR.P wl_D hS a 5 (by rw [wl_get ha, hR.adr h0, ent_long hk]) rfl hi hdg (fun H1 locs1 hP1 hD1 hS1 => W_size fun hz => ?_)
  rw [hR.adr h0] at hP1
  rw [(hC X hX).hs] at hz
  exact h3 X hX g1 g2 g3 g4 H1 locs1 L (vRel_set hR ha hP1 (by omega) rfl hR.2.2.1 (by rw [ent_long (show knd (sl σ a i.toNatClampNeg x) a = 106 from hk), gl_sl]; rfl) (fun b hb => vUp_ent hup hb)) hS1 hL
/-- a reference to an object of the array's own component class -/
theorem V_astq {a v k t0 c : Nat} {C : String} {T : u_T} {N : Nat} {i : Int32} {f : vMem → Option α} (hC : vPx P cc nL own ret d) (hdg : decode cc pc = .ok (.aastore, 1)) (hk1 : 110 ≤ k) (hc0 : c ≠ 0) (hc1 : c < 100) (ht : ∀ dA : Nat → ClassId, (vtys dA)[t0]? = some (dA k, .object C)) (hcl : vcl[c]? = some (C, T, N)) (kk : ∀ σ1, V P emb σ1 (pc + 1) ls st (f σ1)) : V P emb σ pc ls (.ref v :: .int i :: .ref a :: st) (cko σ v [c] (cka σ a k i (vl (sr σ a i.toNatClampNeg (some v)) f))) := by
  refine V_cko (fun hm => V_cka (fun hk hi => ?_))
  have hkv : knd σ v = c := List.mem_singleton.mp hm
  intro r hr
  obtain ⟨h1, h2, h3⟩ := kk (sr σ a i.toNatClampNeg (some v)) r hr
  have hup := vUp_r σ a i.toNatClampNeg (some v)
  refine ⟨h1, h2, fun X hX g1 g2 g3 g4 H locs L hR hS hL => ?_⟩
  have h0 : knd σ a ≠ 0 := by rw [hk]; omega
  have hv0 : knd σ v ≠ 0 := by rw [hkv]; exact hc0
  have ha := hR.lt h0
  refine va_astq (r := (C, T, N)) (hC X hX).exec (hC X hX).code (hC X hX).kn.1 hR.P wl_D hS a t0 v c (by rw [wl_get ha, hR.adr h0, ent_ref hk hk1]) (ht _) (by rw [wl_get (hR.lt hv0), hR.adr hv0, ent_obj hkv hc1]) hcl hi hdg (fun H1 locs1 hP1 hD1 hS1 => W_size fun hz => ?_)
  rw [hR.adr h0] at hP1
  rw [(hC X hX).hs] at hz
  exact h3 X hX g1 g2 g3 g4 H1 locs1 L (vRel_set hR ha hP1 (by omega) rfl hR.2.2.1 (by rw [ent_ref (show knd (sr σ a i.toNatClampNeg (some v)) a = k from hk) hk1, gr_sr]; rfl) (fun b hb => vUp_ent hup hb)) hS1 hL
theorem alc_old {E : vEnv} {dA : Nat → ClassId} {k n b : Nat} (hb : b ≠ mn σ) : ent E dA (alc σ k n) b = ent E dA σ b :=
  ent_congr (by show (if b = mn σ then _ else _) = _; rw [if_neg hb]) (fun j => by show (if b = mn σ then _ else _) = _; rw [if_neg hb]; rfl) (fun j => by show (if b = mn σ then _ else _) = _; rw [if_neg hb]; rfl) (fun j => by show (if b = mn σ then _ else _) = _; rw [if_neg hb]; rfl)
theorem alc_knd {k n : Nat} : knd (alc σ k n) (mn σ) = k := by
  show (if mn σ = mn σ then (k, n) else _).1 = k
  rw [if_pos rfl]
theorem alc_len {k n : Nat} : len (alc σ k n) (mn σ) = n := by
  show (if mn σ = mn σ then (k, n) else _).2 = n
  rw [if_pos rfl]
theorem alc_kn0 {k n b : Nat} (h : ∀ b, mn σ ≤ b → knd σ b = 0) (hb : mn σ + 1 ≤ b) : knd (alc σ k n) b = 0 := by
  show (if b = mn σ then (k, n) else σ.2.2.2.1 b).1 = 0
  rw [if_neg (by omega)]
  exact h b (by omega)
theorem alc_gi {k n j : Nat} : gi (alc σ k n) (mn σ) j = 0 := by
  show (if mn σ = mn σ then (0 : Int32) else _) = 0
  rw [if_pos rfl]
theorem alc_gl {k n j : Nat} : gl (alc σ k n) (mn σ) j = 0 := by
  show (if mn σ = mn σ then (0 : Int64) else _) = 0
  rw [if_pos rfl]
theorem alc_gr {k n j : Nat} : gr (alc σ k n) (mn σ) j = none := by
  show (if mn σ = mn σ then (none : Option Nat) else _) = none
  rw [if_pos rfl]
/-- behind a new cell -/
theorem vRel_new {E : vEnv} {D : va_G} {dA : Nat → ClassId} {σ' : vMem} {H H1 : Heap} (h : vRel E D dA σ H) (hs : mn σ < SB) (hz : H1.size = H.size + 1) (ho : ∀ q, q < H.size → H1[q]? = H[q]?) (hn : mn σ' = mn σ + 1) (hk : ∀ b, mn σ + 1 ≤ b → knd σ' b = 0) (hold : ∀ b, b < mn σ → ent E dA σ' b = ent E dA σ b) (he : va_at D vcl (E.1 + mn σ, ent E dA σ' (mn σ)) H1) : vRel E D dA σ' H1 := by
  have h1 := h.1
  refine ⟨by rw [hz, hn]; omega, by rw [hn]; omega, by rw [hn]; exact hk, fun b hb => ?_⟩
  rw [hn] at hb
  by_cases hb9 : b = mn σ
  · subst hb9
    exact he
  · have hlt : b < mn σ := by omega
    rw [hold b hlt]
    exact (h.2.2.2 b hlt).kept (ho _ (by show E.1 + b < H.size; omega))
theorem vS_new {E : vEnv} {H0 H H1 : Heap} {locs : List Loc} (hS : va_S (vA E) H0 H locs) (hz : H1.size = H.size + 1) (ho : ∀ q, q < H.size → H1[q]? = H[q]?) : va_S (vA E) H0 H1 locs :=
  ⟨Nat.le_trans hS.1 (by omega), fun x h1 h2 => (ho x (Nat.lt_of_lt_of_le h1 hS.1)).trans (hS.2.1 x h1 h2), hS.2.2⟩
theorem V_new {c n N index : Nat} {C : String} {T : u_T} {f : Nat → vMem → Option α} (hC : vPx P cc nL own ret d) (hdg : decode cc pc = .ok (.new index, 3)) (q1 : Cond.classLink own index C ∈ lw_all) (q2 : Cond.instantiable C n ∈ lw_all) (q3 : Cond.initialized C ∈ lw_all) (hcl : vcl[c]? = some (C, T, N)) (hc1 : c < 100) (hin : ∀ w ∈ u_ws C T N, w ∈ lw_all) (ty : Nat → FieldType) (hty : ∀ k, k < N → parseFieldDescriptor (T k).2.2.1 = some (ty k)) (hdf : ∀ k, k < N → defaultValue (ty k) = match (vF c)[k]? with
    | some 0 => .int 0
    | some 1 => .long 0
    | _ => .null) (kk : ∀ a σ1, V P emb σ1 (pc + 3) ls (.ref a :: st) (f a σ1)) : V P emb σ pc ls st (nw σ c n f) := by
  intro r hr
  unfold nw at hr
  by_cases hs : mn σ < SB
  · rw [if_pos hs] at hr
    obtain ⟨h1, h2, h3⟩ := kk (mn σ) (alc σ c n) r hr
    have e1 : mn (alc σ c n) = mn σ + 1 := rfl
    have e2 : mz (alc σ c n) = mz σ + n := rfl
    rw [e1] at h1
    rw [e2] at h2
    refine ⟨by omega, by omega, fun X hX g1 g2 g3 g4 H locs L hR hS hL => ?_⟩
    have hKn := (hC X hX).kn.1.1 c _ hcl
    refine W.newcK (hC X hX).exec (hC X hX).code (hC X hX).hown ((hC X hX).ts _ q1) ((hC X hX).ts _ q2) ((hC X hX).ts _ q3) rfl hdg (by omega) (by omega) hKn.2.1 rfl fun H1 kC hkC f1 z1 o1 => ?_
    refine W.cs (cells' := mn (alc σ c n) - X.n0) (slots' := mz (alc σ c n) - X.s0) (by rw [e1]; omega) (by rw [e2]; omega) ?_
    have hadr : adr X.E (mn σ) = H.size := by rw [adr_lt hs, hR.1]
    have k9 := h3 X hX (by omega) (by omega) g3 g4 H1 locs L (vRel_new hR hs z1 o1 rfl (fun b hb => alc_kn0 hR.2.2.1 hb) (fun b hb => alc_old (by omega)) ?_) (vS_new hS z1 o1) hL
    · rw [List.map_cons] at k9
      have e9 : rv X.E (.ref (mn σ)) = .ref H.size := by show Value.ref (adr X.E (mn σ)) = _; rw [hadr]
      rw [e9] at k9
      exact k9
    · rw [ent_obj alc_knd hc1]
      refine ⟨_, hcl, ?_⟩
      rw [← hR.1]
      refine (u_born ty (hC X hX).ts hin hKn hkC f1 hty).to (fun j hj => ?_)
      show defaultValue (ty j) = vp_V _ j
      rw [flds_getD, hdf j hj]
      unfold fv
      rw [alc_gi, alc_gl, alc_gr]
      split <;> split <;> simp_all [va_rf]
  · rw [if_neg hs] at hr
    cases hr
theorem V_newa {k t0 : Nat} {atype : ArrayType} {i : Int32} {f : Nat → vMem → Option α} (hC : vPx P cc nL own ret d) (hdg : decode cc pc = .ok (.newarray atype, 2)) (q1 : Cond.arrayClass (newarray.typeOf atype) ∈ lw_all) (hk1 : 100 ≤ k) (ht : ∀ dA : Nat → ClassId, (vtys dA)[t0]? = some (dA k, newarray.typeOf atype)) (hby : componentBytes (newarray.typeOf atype) ≤ 8) (hcell : ∀ (E : vEnv) (dA : Nat → ClassId) (σ : vMem) (N : Nat), arrV (dA k) N (fun _ => defaultValue (newarray.typeOf atype)) = vp_cell (dA k) (arrc E (alc σ k N) (mn σ))) (kk : ∀ a σ1, V P emb σ1 (pc + 2) ls (.ref a :: st) (f a σ1)) : V P emb σ pc ls (.int i :: st) (nwa σ k i f) := by
  intro r hr
  unfold nwa at hr
  by_cases hh : ¬ i < 0 ∧ mn σ < SB ∧ i.toNatClampNeg ≤ 1000000
  · rw [if_pos hh] at hr
    obtain ⟨hi, hs, hb⟩ := hh
    obtain ⟨h1, h2, h3⟩ := kk (mn σ) (alc σ k i.toNatClampNeg) r hr
    have e1 : mn (alc σ k i.toNatClampNeg) = mn σ + 1 := rfl
    have e2 : mz (alc σ k i.toNatClampNeg) = mz σ + i.toNatClampNeg := rfl
    rw [e1] at h1
    rw [e2] at h2
    refine ⟨by omega, by omega, fun X hX g1 g2 g3 g4 H locs L hR hS hL => ?_⟩
    refine va_newaK (hC X hX).exec (hC X hX).code ((hC X hX).ts _ q1) rfl hdg rfl hi rfl (Nat.le_trans (Nat.mul_le_mul hb hby) (Nat.le_of_ble_eq_true rfl)) (by omega) (by omega) rfl fun H1 cA f1 z1 o1 hAr hNm => ?_
    have hcA : cA = X.dA k := by
      have h9 := ((hC X hX).kn.1.2 t0 _ (ht _)).2
      have h8 : X.s.vm.findClass ("[" ++ (newarray.typeOf atype).toString) = some (X.dA k) := by cases atype <;> exact h9
      exact Option.some.inj (hNm.symm.trans h8)
    subst hcA
    refine W.cs (cells' := mn (alc σ k i.toNatClampNeg) - X.n0) (slots' := mz (alc σ k i.toNatClampNeg) - X.s0) (by rw [e1]; omega) (by rw [e2]; omega) ?_
    have hadr : adr X.E (mn σ) = H.size := by rw [adr_lt hs, hR.1]
    have k9 := h3 X hX (by omega) (by omega) g3 g4 H1 locs L (vRel_new hR hs z1 o1 rfl (fun b hb => alc_kn0 hR.2.2.1 hb) (fun b hb => alc_old (by omega)) ?_) (vS_new hS z1 o1) hL
    · rw [List.map_cons] at k9
      have e9 : rv X.E (.ref (mn σ)) = .ref H.size := by show Value.ref (adr X.E (mn σ)) = _; rw [hadr]
      rw [e9] at k9
      exact k9
    · unfold ent
      rw [alc_knd, if_neg (by omega)]
      show H1[X.E.1 + mn σ]? = some (vp_cell _ _)
      rw [← hR.1, f1, hcell]
  · rw [if_neg hh] at hr
    cases hr
theorem V_newq {k t0 index : Nat} {C : String} {i : Int32} {f : Nat → vMem → Option α} (hC : vPx P cc nL own ret d) (hdg : decode cc pc = .ok (.anewarray index, 3)) (q1 : Cond.classLink own index C ∈ lw_all) (q2 : ∀ X, P X → (Cond.arrayOver (.object C)).before X.args X.s = true) (hk1 : 110 ≤ k) (ht : ∀ dA : Nat → ClassId, (vtys dA)[t0]? = some (dA k, .object C)) (kk : ∀ a σ1, V P emb σ1 (pc + 3) ls (.ref a :: st) (f a σ1)) : V P emb σ pc ls (.int i :: st) (nwa σ k i f) := by
  intro r hr
  unfold nwa at hr
  by_cases hh : ¬ i < 0 ∧ mn σ < SB ∧ i.toNatClampNeg ≤ 1000000
  · rw [if_pos hh] at hr
    obtain ⟨hi, hs, hb⟩ := hh
    obtain ⟨h1, h2, h3⟩ := kk (mn σ) (alc σ k i.toNatClampNeg) r hr
    have e1 : mn (alc σ k i.toNatClampNeg) = mn σ + 1 := rfl
    have e2 : mz (alc σ k i.toNatClampNeg) = mz σ + i.toNatClampNeg := rfl
    rw [e1] at h1
    rw [e2] at h2
    refine ⟨by omega, by omega, fun X hX g1 g2 g3 g4 H locs L hR hS hL => ?_⟩
    refine W.anew (hC X hX).exec (hC X hX).code (hC X hX).hown ((hC X hX).ts _ q1) (q2 X hX) rfl hdg rfl hi (by omega) (by omega) (by omega) fun cA kA comp f1 f2 f3 f4 => ?_
    have hcA : cA = X.dA k := by
      obtain ⟨kA', comp', p1, p2, p3, p4⟩ := ((hC X hX).kn.1.2 t0 _ (ht _)).2
      exact Option.some.inj (f1.symm.trans p4)
    subst hcA
    generalize hH1 : H.push ({ cls := X.dA k, slots := Array.replicate i.toNatClampNeg .null, vm := .none } : Cell) = H1
    have z1 : H1.size = H.size + 1 := by rw [← hH1, Array.size_push]
    have e3 : H1[H.size]? = some (arrV (X.dA k) i.toNatClampNeg (fun _ => .null)) := by rw [← hH1, Array.getElem?_push_size, ← arrV_new]
    have o1 : ∀ q, q < H.size → H1[q]? = H[q]? := fun q hq => by rw [← hH1, Array.getElem?_push, if_neg (Nat.ne_of_lt hq)]
    refine W.cs (cells' := mn (alc σ k i.toNatClampNeg) - X.n0) (slots' := mz (alc σ k i.toNatClampNeg) - X.s0) (by rw [e1]; omega) (by rw [e2]; omega) ?_
    have hadr : adr X.E (mn σ) = H.size := by rw [adr_lt hs, hR.1]
    have k9 := h3 X hX (by omega) (by omega) g3 g4 H1 locs L (vRel_new hR hs z1 o1 rfl (fun b hb => alc_kn0 hR.2.2.1 hb) (fun b hb => alc_old (by omega)) ?_) (vS_new hS z1 o1) hL
    · rw [List.map_cons] at k9
      have e9 : rv X.E (.ref (mn σ)) = .ref H.size := by show Value.ref (adr X.E (mn σ)) = _; rw [hadr]
      rw [e9] at k9
      exact k9
    · rw [ent_ref alc_knd hk1]
      show H1[X.E.1 + mn σ]? = some (vp_cell _ _)
      rw [← hR.1, e3, vp_cell_q, alc_len]
      congr 2
      funext j
      rw [alc_gr]
      rfl
  · rw [if_neg hh] at hr
    cases hr
theorem ent_new0 {E : vEnv} {dA : Nat → ClassId} {k N : Nat} (h1 : 100 ≤ k) (h2 : k < 106) : arrV (dA k) N (fun _ => .int 0) = vp_cell (dA k) (arrc E (alc σ k N) (mn σ)) := by
  unfold arrc
  rw [alc_knd, if_neg (by omega), if_neg (by omega), alc_len, vp_cell_i]
  congr 1
  funext j
  rw [alc_gi]
theorem ent_new1 {E : vEnv} {dA : Nat → ClassId} {N : Nat} : arrV (dA 106) N (fun _ => .long 0) = vp_cell (dA 106) (arrc E (alc σ 106 N) (mn σ)) := by
  unfold arrc
  rw [alc_knd, if_pos rfl, alc_len]
  show _ = arrV _ _ (fun j => .long (gl _ _ j))
  congr 1
  funext j
  rw [alc_gl]
theorem V_newa_boolean {i : Int32} {f : Nat → vMem → Option α} (hC : vPx P cc nL own ret d) (hdg : decode cc pc = .ok (.newarray .boolean, 2)) (q1 : Cond.arrayClass .boolean ∈ lw_all) (kk : ∀ a σ1, V P emb σ1 (pc + 2) ls (.ref a :: st) (f a σ1)) : V P emb σ pc ls (.int i :: st) (nwa σ 101 i f) := V_newa (t0 := 0) hC hdg q1 (by decide) (fun _ => rfl) (by decide) (fun E dA σ N => ent_new0 (by decide) (by decide)) kk
theorem V_newa_byte {i : Int32} {f : Nat → vMem → Option α} (hC : vPx P cc nL own ret d) (hdg : decode cc pc = .ok (.newarray .byte, 2)) (q1 : Cond.arrayClass .byte ∈ lw_all) (kk : ∀ a σ1, V P emb σ1 (pc + 2) ls (.ref a :: st) (f a σ1)) : V P emb σ pc ls (.int i :: st) (nwa σ 102 i f) := V_newa (t0 := 1) hC hdg q1 (by decide) (fun _ => rfl) (by decide) (fun E dA σ N => ent_new0 (by decide) (by decide)) kk
theorem V_newa_char {i : Int32} {f : Nat → vMem → Option α} (hC : vPx P cc nL own ret d) (hdg : decode cc pc = .ok (.newarray .char, 2)) (q1 : Cond.arrayClass .char ∈ lw_all) (kk : ∀ a σ1, V P emb σ1 (pc + 2) ls (.ref a :: st) (f a σ1)) : V P emb σ pc ls (.int i :: st) (nwa σ 103 i f) := V_newa (t0 := 2) hC hdg q1 (by decide) (fun _ => rfl) (by decide) (fun E dA σ N => ent_new0 (by decide) (by decide)) kk
theorem V_newa_short {i : Int32} {f : Nat → vMem → Option α} (hC : vPx P cc nL own ret d) (hdg : decode cc pc = .ok (.newarray .short, 2)) (q1 : Cond.arrayClass .short ∈ lw_all) (kk : ∀ a σ1, V P emb σ1 (pc + 2) ls (.ref a :: st) (f a σ1)) : V P emb σ pc ls (.int i :: st) (nwa σ 104 i f) := V_newa (t0 := 3) hC hdg q1 (by decide) (fun _ => rfl) (by decide) (fun E dA σ N => ent_new0 (by decide) (by decide)) kk
theorem V_newa_int {i : Int32} {f : Nat → vMem → Option α} (hC : vPx P cc nL own ret d) (hdg : decode cc pc = .ok (.newarray .int, 2)) (q1 : Cond.arrayClass .int ∈ lw_all) (kk : ∀ a σ1, V P emb σ1 (pc + 2) ls (.ref a :: st) (f a σ1)) : V P emb σ pc ls (.int i :: st) (nwa σ 105 i f) := V_newa (t0 := 4) hC hdg q1 (by decide) (fun _ => rfl) (by decide) (fun E dA σ N => ent_new0 (by decide) (by decide)) kk
theorem V_newa_long {i : Int32} {f : Nat → vMem → Option α} (hC : vPx P cc nL own ret d) (hdg : decode cc pc = .ok (.newarray .long, 2)) (q1 : Cond.arrayClass .long ∈ lw_all) (kk : ∀ a σ1, V P emb σ1 (pc + 2) ls (.ref a :: st) (f a σ1)) : V P emb σ pc ls (.int i :: st) (nwa σ 106 i f) := V_newa (t0 := 5) hC hdg q1 (by decide) (fun _ => rfl) (by decide) (fun E dA σ N => ent_new1) kk
end VARR
