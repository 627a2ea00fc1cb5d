/-! ROWS that read and write the memory -/
set_option maxRecDepth 100000
theorem rv_rf (E : vEnv) (o : Option Nat) : rv E (va_rf o) = va_rf (o.map (adr E)) := by cases o <;> rfl
/-- a text constant; its bytes -/
def cks {α : Type} (a : Nat) (t : Option α) : Option α := if SB ≤ a ∧ a < SB + 6 then t else none
theorem adr_s {E : vEnv} {i : Nat} : adr E (SB + i) = E.2 i := by
  unfold adr
  rw [if_neg (by omega), show SB + i - SB = i by omega]
theorem adr_lt {E : vEnv} {a : Nat} (h : a < SB) : adr E a = E.1 + a := if_pos h
section VREL
variable {E : vEnv} {D : va_G} {dA : Nat → ClassId} {σ σ' : vMem} {H H1 : Heap}
theorem vRel.lt {a : Nat} (h : vRel E D dA σ H) (hk : knd σ a ≠ 0) : a < mn σ := Nat.lt_of_not_le (fun q => hk (h.2.2.1 a q))
theorem vRel.adr {a : Nat} (h : vRel E D dA σ H) (hk : knd σ a ≠ 0) : adr E a = E.1 + a := adr_lt (Nat.lt_of_lt_of_le (h.lt hk) h.2.1)
theorem wl_get {a : Nat} (h : a < mn σ) : (wl E dA σ)[a]? = some (E.1 + a, ent E dA σ a) := by
  unfold wl
  rw [List.getElem?_map, List.getElem?_range h]
  rfl
theorem wl_lt {k : Nat} {q : Nat × va_E} (h : (wl E dA σ)[k]? = some q) : k < mn σ ∧ q = (E.1 + k, ent E dA σ k) := by
  unfold wl at h
  rw [List.getElem?_map] at h
  by_cases hk : k < mn σ
  · rw [List.getElem?_range hk] at h
    exact ⟨hk, (Option.some.inj h).symm⟩
  · rw [List.getElem?_eq_none (by simp; omega)] at h
    cases h
theorem wl_len : (wl E dA σ).length = mn σ := by simp [wl]
theorem vRel.P (h : vRel E D dA σ H) : va_P D vcl (wl E dA σ) H := by
  intro k q hk
  obtain ⟨h1, rfl⟩ := wl_lt hk
  exact h.2.2.2 k h1
theorem wl_D : va_D (vA E) (wl E dA σ) := by
  refine ⟨fun i j p q hi hj e => ?_, fun k q hk => ?_⟩
  · obtain ⟨_, rfl⟩ := wl_lt hi
    obtain ⟨_, rfl⟩ := wl_lt hj
    have e : E.1 + i = E.1 + j := e
    omega
  · obtain ⟨_, rfl⟩ := wl_lt hk
    show E.1 ≤ E.1 + k
    omega
theorem W_size {p : Program} {l : Launch} {e : Env} {R : Room} {s : State} {m : MethodId} {args : Array Value} {below : List Frame} {meth : Method} {c : Code} {locs : List Loc} {cells slots : Nat} {Q : State → Prop} {g : JFrame} (k : H.size ≤ s.heap.size + cells → W p l e R s m args below meth c H locs cells slots Q g) : W p l e R s m args below meth c H locs cells slots Q g := fun T hT X => k (by rw [← hT]; exact X.heapSize) T hT X
/-- behind a write to one cell -/
theorem vRel_set {a : Nat} {e : va_E} (h : vRel E D dA σ H) (ha : a < mn σ) (hP : va_P D vcl ((wl E dA σ).set a (E.1 + a, e)) H1) (hz : H1.size ≤ E.1 + mn σ) (hn : mn σ' = mn σ) (hk : ∀ b, mn σ ≤ b → knd σ' b = 0) (he : ent E dA σ' a = e) (ho : ∀ b, b ≠ a → ent E dA σ' b = ent E dA σ b) : vRel E D dA σ' H1 := by
  have hc : ∀ b, b < mn σ → va_at D vcl (E.1 + b, ent E dA σ' b) H1 := by
    intro b hb
    by_cases hba : b = a
    · subst hba
      have h1 := hP b (E.1 + b, e) (by rw [List.getElem?_set_self (by rw [wl_len]; exact ha)])
      rw [he]
      exact h1
    · rw [ho b hba]
      exact hP b _ (by rw [List.getElem?_set_ne (fun q => hba q.symm)]; exact wl_get hb)
  have hlast : E.1 + (mn σ - 1) < H1.size := (hc (mn σ - 1) (by omega)).lt
  refine ⟨?_, by rw [hn]; exact h.2.1, by rw [hn]; exact hk, by rw [hn]; exact hc⟩
  rw [hn]
  omega
theorem flds_congr {a : Nat} (h1 : ∀ j, gi σ' a j = gi σ a j) (h2 : ∀ j, gl σ' a j = gl σ a j) (h3 : ∀ j, gr σ' a j = gr σ a j) : ∀ (ts : List Nat) (j : Nat), flds E σ' a ts j = flds E σ a ts j
  | [], _ => rfl
  | t :: ts, j => by
    show fv E σ' a j t :: flds E σ' a ts (j + 1) = fv E σ a j t :: flds E σ a ts (j + 1)
    rw [flds_congr h1 h2 h3 ts (j + 1)]
    congr 1
    unfold fv
    rw [h1, h2, h3]
theorem ent_congr {b : Nat} (hs : σ'.2.2.2.1 b = σ.2.2.2.1 b) (h1 : ∀ j, gi σ' b j = gi σ b j) (h2 : ∀ j, gl σ' b j = gl σ b j) (h3 : ∀ j, gr σ' b j = gr σ b j) : ent E dA σ' b = ent E dA σ b := by
  have hk : knd σ' b = knd σ b := by unfold knd; rw [hs]
  have hl : len σ' b = len σ b := by unfold len; rw [hs]
  have e1 : gi σ' b = gi σ b := funext h1
  have e2 : gl σ' b = gl σ b := funext h2
  have e3 : gr σ' b = gr σ b := funext h3
  unfold ent arrc
  rw [hk, hl, flds_congr h1 h2 h3, e1, e2, e3]
theorem ent_obj {a c : Nat} (h : knd σ a = c) (hc : c < 100) : ent E dA σ a = .inr (c, flds E σ a (vF c) 0) := by
  unfold ent
  rw [h, if_pos hc]
theorem ent_int {a k : Nat} (h : knd σ a = k) (h1 : 100 ≤ k) (h2 : k < 106) : ent E dA σ a = .inl (dA k, (len σ a, .inl (gi σ a))) := by
  unfold ent arrc
  rw [h, if_neg (by omega), if_neg (by omega), if_neg (by omega)]
theorem ent_long {a : Nat} (h : knd σ a = 106) : ent E dA σ a = .inl (dA 106, (len σ a, .inr (.inl (gl σ a)))) := by
  unfold ent arrc
  rw [h, if_neg (by omega), if_pos rfl]
theorem ent_ref {a k : Nat} (h : knd σ a = k) (h1 : 110 ≤ k) : ent E dA σ a = .inl (dA k, (len σ a, .inr (.inr (.inr (.inr (fun j => (gr σ a j).map (adr E))))))) := by
  unfold ent arrc
  rw [h, if_neg (by omega), if_neg (by omega), if_pos h1]
theorem flds_get {a : Nat} : ∀ (ts : List Nat) (j0 k t : Nat), ts[k]? = some t → (flds E σ a ts j0)[k]? = some (fv E σ a (j0 + k) t)
  | [], _, _, _, h => by simp at h
  | t :: ts, j0, 0, t', h => by
    simp at h
    subst h
    rfl
  | t :: ts, j0, k + 1, t', h => by
    have h1 := flds_get (a := a) ts (j0 + 1) k t' (by simpa using h)
    rw [show j0 + (k + 1) = j0 + 1 + k by omega]
    exact h1
theorem flds_getD {a : Nat} : ∀ (ts : List Nat) (j0 j : Nat), vp_V (flds E σ a ts j0) j = match ts[j]? with
    | some t => fv E σ a (j0 + j) t
    | none => .null
  | [], _, _ => rfl
  | t :: ts, j0, 0 => rfl
  | t :: ts, j0, j + 1 => by
    have h1 := flds_getD (a := a) ts (j0 + 1) j
    rw [show j0 + (j + 1) = j0 + 1 + j by omega]
    exact h1
end VREL
/-- what a place of a cell holds, as a value -/
def fvv (σ : vMem) (a j t : Nat) : Value := match t with
  | 0 => .int (gi σ a j)
  | 1 => .long (gl σ a j)
  | _ => va_rf (gr σ a j)
theorem rv_fvv (E : vEnv) (σ : vMem) (a j t : Nat) : rv E (fvv σ a j t) = fv E σ a j t := match t with
  | 0 => rfl
  | 1 => rfl
  | _ + 2 => rv_rf E _
/-- the kind c has the field (ref, name, desc) at its place k, of type code ty -/
def vFld (c k ty : Nat) (ref name desc : String) : Prop := c ≠ 0 ∧ c < 100 ∧ ∃ (C : String) (T : u_T) (N : Nat), vcl[c]? = some (C, T, N) ∧ (∀ w ∈ u_ws C T N, w ∈ lw_all) ∧ k < N ∧ (T k).2.1 = name ∧ (T k).2.2.1 = desc ∧ ((T k).1 = ref ∨ Cond.sameField ref (T k).1 name desc ∈ lw_all) ∧ (vF c)[k]? = some ty
/-- .. and it may be written: final or not, apart from the others -/
def vFldW (c k : Nat) (fin : Bool) (desc : String) (fty : FieldType) : Prop := ∃ (C : String) (T : u_T) (N : Nat) (ty0 : Nat → FieldType), vcl[c]? = some (C, T, N) ∧ (T k).2.2.2 = fin ∧ (∀ j, j < N → j ≠ k → (T j).2.1 ≠ (T k).2.1) ∧ (∀ j, j < N → parseFieldDescriptor (T j).2.2.1 = some (ty0 j)) ∧ parseFieldDescriptor desc = some fty
/-- .. or of another class's field of the same name -/
def vFldW2 (c k : Nat) (desc : String) (fty : FieldType) : Prop := ∃ (C : String) (T : u_T) (N : Nat) (ty0 : Nat → FieldType), vcl[c]? = some (C, T, N) ∧ (T k).2.2.2 = true ∧ (∀ j, j < N → j ≠ k → ((T j).2.1 ≠ (T k).2.1 ∨ ((T j).2.2.2 = true ∧ (T j).1 ≠ (T k).1))) ∧ (∀ j, j < N → parseFieldDescriptor (T j).2.2.1 = some (ty0 j)) ∧ parseFieldDescriptor desc = some fty
theorem u_apart2 {args : Array Value} {s : State} {C O1 f1 d1 O2 f2 d2 : String} {c1 i1 c2 i2 : Nat} {k1 k2 : Class} {g1 g2 : Field} (h1 : (Cond.laysFinal C O1 f1 d1).before args s = true) (h2 : (Cond.laysFinal C O2 f2 d2).before args s = true) (e1 : s.fieldFound? O1 f1 d1 = some (c1, k1, i1, g1)) (e2 : s.fieldFound? O2 f2 d2 = some (c2, k2, i2, g2)) (hne : O1 ≠ O2) : g1.slot ≠ g2.slot := by
  obtain ⟨a, ka, a', ka', ia, ga, p1, p2, p3, -, -, -, p4, -, da, p5, p6, -, -⟩ := Cond.laysFinal_spec h1
  obtain ⟨b, kb, b', kb', ib, gb, q1, q2, q3, -, -, -, q4, -, db, q5, q6, -, -⟩ := Cond.laysFinal_spec h2
  cases Option.some.inj (p1.symm.trans q1)
  cases Option.some.inj (p3.symm.trans e1)
  cases Option.some.inj (q3.symm.trans e2)
  intro h
  rw [h] at p5
  cases Option.some.inj (p5.symm.trans q5)
  obtain ⟨x1, y1, z1⟩ := Vm.findClass_spec p4
  obtain ⟨x2, y2, z2⟩ := Vm.findClass_spec q4
  have w1 := (State.fieldFound?_spec e1).1
  have w2 := (State.fieldFound?_spec e2).1
  cases Option.some.inj (y1.symm.trans w1)
  cases Option.some.inj (y2.symm.trans w2)
  apply hne
  rw [← z1, ← z2, ← p6, ← q6]
theorem vFld_same {args : Array Value} {s : State} {ref name desc owner : String} (hts : ∀ w ∈ lw_all, w.before args s = true) (h : owner = ref ∨ Cond.sameField ref owner name desc ∈ lw_all) : ∀ x, s.fieldFound? owner name desc = some x → s.fieldFound? ref name desc = some x := by
  rcases h with h | h
  · subst h
    exact fun _ q => q
  · exact fun x hx => u_same (hts _ h) x hx
section VGET
variable {α : Type} {P : vX → Prop} {emb : α → vRes} {cc : ByteArray} {nL : Nat} {own : String} {ret : Option FieldType} {d : Nat} {σ : vMem} {pc : Nat} {ls : List (Option Value)} {st : List Value} {t : Option α}
theorem V_getf {S : List Nat} {a k ty index : Nat} {ref name desc : String} {v : Value} (hC : vPx P cc nL own ret d) (hdg : decode cc pc = .ok (.getfield index, 3)) (hq : Cond.fieldLink own index ref name desc ∈ lw_all) (htab : ∀ c ∈ S, vFld c k ty ref name desc) (hv : fvv σ a k ty = v) (kk : V P emb σ (pc + 3) ls (v :: st) t) : V P emb σ pc ls (.ref a :: st) (cko σ a S t) := by
  refine V_cko (fun hm => ?_)
  obtain ⟨h0, hc, C, T, N, hcl, hin, hk, hnm, hds, hsame, hvf⟩ := htab _ hm
  subst hnm
  subst hds
  intro r hr
  obtain ⟨h1, h2, h3⟩ := kk r hr
  refine ⟨h1, h2, fun X hX g1 g2 g3 g4 H locs L hR hS hL => ?_⟩
  have ha := hR.lt h0
  have he : (wl X.E X.dA σ)[a]? = some (adr X.E a, .inr (knd σ a, flds X.E σ a (vF (knd σ a)) 0)) := by
    rw [wl_get ha, hR.adr h0, ent_obj rfl hc]
  refine va_get (hC X hX).exec (hC X hX).code (hC X hX).ts hin (hC X hX).hown (hC X hX).kn.1 hR.P a he hcl k hk ((hC X hX).ts _ hq) (vFld_same (hC X hX).ts hsame) (v := rv X.E v) ?_ hdg (h3 X hX g1 g2 g3 g4 H locs L hR hS hL)
  rw [flds_get _ 0 k ty hvf, Nat.zero_add, ← hv, rv_fvv]
theorem V_getfN {S : List Nat} {a k ty index : Nat} {ref name desc host : String} {v : Value} (hC : vPx P cc nL own ret d) (hdg : decode cc pc = .ok (.getfield index, 3)) (hq : Cond.fieldLinkNest own index ref name desc host ∈ lw_tbl) (htab : ∀ c ∈ S, vFld c k ty ref name desc) (hv : fvv σ a k ty = v) (kk : V P emb σ (pc + 3) ls (v :: st) t) : V P emb σ pc ls (.ref a :: st) (cko σ a S t) := by
  refine V_cko (fun hm => ?_)
  obtain ⟨h0, hc, C, T, N, hcl, hin, hk, hnm, hds, hsame, hvf⟩ := htab _ hm
  subst hnm
  subst hds
  intro r hr
  obtain ⟨h1, h2, h3⟩ := kk r hr
  refine ⟨h1, h2, fun X hX g1 g2 g3 g4 H locs L hR hS hL => ?_⟩
  have ha := hR.lt h0
  have he : (wl X.E X.dA σ)[a]? = some (adr X.E a, .inr (knd σ a, flds X.E σ a (vF (knd σ a)) 0)) := by
    rw [wl_get ha, hR.adr h0, ent_obj rfl hc]
  refine va_getN (hC X hX).exec (hC X hX).code (hC X hX).ts hin (hC X hX).hown (hC X hX).kn.1 hR.P a he hcl k hk (va_Nw.use rfl ((hC X hX).kn.2.1 _ (vNest_in hq rfl))) (vFld_same (hC X hX).ts hsame) (v := rv X.E v) ?_ hdg (h3 X hX g1 g2 g3 g4 H locs L hR hS hL)
  rw [flds_get _ 0 k ty hvf, Nat.zero_add, ← hv, rv_fvv]
end VGET
/-- σ' is σ but for one place of one cell -/
def vUp (σ σ' : vMem) (a k : Nat) : Prop := mn σ' = mn σ ∧ mz σ' = mz σ ∧ σ'.2.2.2.1 = σ.2.2.2.1 ∧ ∀ b j, (b ≠ a ∨ j ≠ k) → gi σ' b j = gi σ b j ∧ gl σ' b j = gl σ b j ∧ gr σ' b j = gr σ b j
theorem vUp_i (σ : vMem) (a k : Nat) (v : Int32) : vUp σ (si σ a k v) a k := by
  refine ⟨rfl, rfl, rfl, fun b j h => ⟨?_, rfl, rfl⟩⟩
  show up2 σ.1 a k v b j = σ.1 b j
  unfold up2
  rw [if_neg (by omega)]
theorem vUp_l (σ : vMem) (a k : Nat) (v : Int64) : vUp σ (sl σ a k v) a k := by
  refine ⟨rfl, rfl, rfl, fun b j h => ⟨rfl, ?_, rfl⟩⟩
  show up2 σ.2.1 a k v b j = σ.2.1 b j
  unfold up2
  rw [if_neg (by omega)]
theorem vUp_r (σ : vMem) (a k : Nat) (v : Option Nat) : vUp σ (sr σ a k v) a k := by
  refine ⟨rfl, rfl, rfl, fun b j h => ⟨rfl, rfl, ?_⟩⟩
  show up2 σ.2.2.1 a k v b j = σ.2.2.1 b j
  unfold up2
  rw [if_neg (by omega)]
theorem vUp_ent {E : vEnv} {dA : Nat → ClassId} {σ σ' : vMem} {a k b : Nat} (h : vUp σ σ' a k) (hb : b ≠ a) : ent E dA σ' b = ent E dA σ b :=
  ent_congr (by rw [h.2.2.1]) (fun j => (h.2.2.2 b j (Or.inl hb)).1) (fun j => (h.2.2.2 b j (Or.inl hb)).2.1) (fun j => (h.2.2.2 b j (Or.inl hb)).2.2)
theorem vUp_knd {σ σ' : vMem} {a k : Nat} (h : vUp σ σ' a k) (b : Nat) : knd σ' b = knd σ b := by
  unfold knd
  rw [h.2.2.1]
theorem vUp_len {σ σ' : vMem} {a k : Nat} (h : vUp σ σ' a k) (b : Nat) : len σ' b = len σ b := by
  unfold len
  rw [h.2.2.1]
/-- a field was written -/
theorem vRel_put {E : vEnv} {D : va_G} {dA : Nat → ClassId} {σ σ' : vMem} {H H1 : Heap} {a k ty : Nat} {C : String} {T : u_T} {N : Nat} {cell : Cell} {w : Value} (h : vRel E D dA σ H) (h0 : knd σ a ≠ 0) (hc : knd σ a < 100) (hcl : vcl[knd σ a]? = some (C, T, N)) (hk : k < N) (hty : (vF (knd σ a))[k]? = some ty) (hap : ∀ j, j < N → j ≠ k → D.2 (knd σ a) j ≠ D.2 (knd σ a) k)
    (hcell : H[adr E a]? = some cell) (e1 : H1[adr E a]? = some (cell.setSlot (D.2 (knd σ a) k) w)) (e2 : H1.size = H.size) (e3 : ∀ q, q ≠ adr E a → H1[q]? = H[q]?) (hup : vUp σ σ' a k) (hw : fv E σ' a k ty = w) : vRel E D dA σ' H1 := by
  have ha := h.lt h0
  have hadr := h.adr h0
  refine ⟨by rw [e2, hup.1]; exact h.1, by rw [hup.1]; exact h.2.1, fun b hb => by rw [vUp_knd hup]; exact h.2.2.1 b (by rw [← hup.1]; exact hb), fun b hb => ?_⟩
  rw [hup.1] at hb
  by_cases hba : b = a
  · subst hba
    have h1 := h.2.2.2 b ha
    rw [ent_obj rfl hc] at h1
    rw [ent_obj (vUp_knd hup b) hc]
    obtain ⟨r, g1, cell', q1, q2, q3, q4⟩ := h1
    have hr : r = (C, T, N) := Option.some.inj (g1.symm.trans hcl)
    subst hr
    have q1 : H[E.1 + b]? = some cell' := q1
    have hcc : cell' = cell := by rw [hadr] at hcell; exact Option.some.inj (q1.symm.trans hcell)
    subst hcc
    rw [hadr] at e1
    refine ⟨_, hcl, _, e1, q2, q3, fun j hj => ?_⟩
    show _ = some (vp_V (flds E σ' b (vF (knd σ b)) 0) j)
    have q5 := q4 j hj
    have q5 : cell'.slots[D.2 (knd σ b) j]? = some (vp_V (flds E σ b (vF (knd σ b)) 0) j) := q5
    rw [flds_getD]
    rw [flds_getD] at q5
    by_cases hjk : j = k
    · subst hjk
      rw [Cell.slots_setSlot_self _ (k2_hasslot q5), hty, ← hw, Nat.zero_add]
    · rw [slot_ne _ _ (hap j hj hjk).symm, q5]
      congr 1
      split
      · unfold fv
        rw [Nat.zero_add, (hup.2.2.2 b j (Or.inr hjk)).1, (hup.2.2.2 b j (Or.inr hjk)).2.1, (hup.2.2.2 b j (Or.inr hjk)).2.2]
      · rfl
  · have h1 := h.2.2.2 b hb
    rw [vUp_ent hup hba]
    exact h1.kept (e3 _ (by rw [hadr]; omega))
section VPUT
variable {α : Type} {P : vX → Prop} {emb : α → vRes} {cc : ByteArray} {nL : Nat} {own : String} {ret : Option FieldType} {d : Nat} {σ σ' : vMem} {pc : Nat} {ls : List (Option Value)} {st : List Value} {t : Option α}
theorem V_up {a k : Nat} (hup : vUp σ σ' a k) {r : α} {B : Prop} (h : mn σ' ≤ mn (rmm (emb r)) ∧ mz σ' ≤ mz (rmm (emb r)) ∧ B) : mn σ ≤ mn (rmm (emb r)) ∧ mz σ ≤ mz (rmm (emb r)) ∧ B := by
  rw [hup.1, hup.2.1] at h
  exact h
theorem V_putf {S : List Nat} {a k ty index : Nat} {ref name desc : String} {fty : FieldType} {v : Value} (hC : vPx P cc nL own ret d) (hdg : decode cc pc = .ok (.putfield index, 3)) (hq : Cond.fieldLink own index ref name desc ∈ lw_all) (htab : ∀ c ∈ S, vFld c k ty ref name desc) (htabW : ∀ c ∈ S, vFldW c k false desc fty) (hup : vUp σ σ' a k) (hv : fvv σ' a k ty = v) (hn : ∀ E, narrow fty (rv E v) = rv E v) (hfit : ∀ E, fits fty (rv E v) = true) (kk : V P emb σ' (pc + 3) ls st t) : V P emb σ pc ls (v :: .ref a :: st) (cko σ a S t) := by
  refine V_cko (fun hm => ?_)
  obtain ⟨h0, hc, C, T, N, hcl, hin, hk, hnm, hds, hsame, hvf⟩ := htab _ hm
  obtain ⟨C', T', N', ty0, hcl', hfin, hnms, hty0, hpd⟩ := htabW _ hm
  cases hcl.symm.trans hcl'
  subst hnm
  subst hds
  intro r hr
  obtain ⟨h1, h2, h3⟩ := kk r hr
  refine V_up (a := a) (k := k) (σ' := σ') hup ⟨h1, h2, fun X hX g1 g2 g3 g4 H locs L hR hS hL => ?_⟩
  have ha := hR.lt h0
  have h9 := hR.P a _ (wl_get ha)
  rw [ent_obj rfl hc, ← hR.adr h0] at h9
  obtain ⟨r9, f1, cell, q1, q2, q3, q4⟩ := h9
  have hr9 : r9 = (C, T, N) := Option.some.inj (f1.symm.trans hcl)
  subst hr9
  have q1 : H[adr X.E a]? = some cell := q1
  obtain ⟨hSl, hfc, kC, hkC, hkind⟩ := (hC X hX).kn.1.1 (knd σ a) _ hcl
  obtain ⟨cf, kf, fi, f, hi, hsl⟩ := hSl k hk
  have hap : ∀ j, j < N → j ≠ k → X.D.2 (knd σ a) j ≠ X.D.2 (knd σ a) k := by
    intro j hj hjk
    obtain ⟨_, _, _, fa, hia, ea⟩ := hSl j hj
    rw [← ea, ← hsl]
    refine u_apart (u_lays (hC X hX).ts hin hj) (u_lays (hC X hX).ts hin hk) hia hi ?_
    rw [(State.fieldFound?_type hia (hty0 j hj)).1, (State.fieldFound?_type hi (hty0 k hk)).1]
    exact hnms j hj hjk
  have hlay := (hC X hX).ts _ (hin _ (u_in_lay hk))
  unfold u_lay at hlay
  rw [if_neg (by rw [hfin]; decide)] at hlay
  have hst := (u_facts hfc hkC (u_lays (hC X hX).ts hin hk) hi).1
  have h6 := u_store hfc hkC hkind hlay hi hpd (hn X.E) (hfit X.E)
  refine W.putK (hC X hX).exec (hC X hX).code (f := f) ⟨(hC X hX).hown, (hC X hX).ts _ hq, ⟨_, _, _, vFld_same (hC X hX).ts hsame _ hi⟩, hst⟩ (by rw [q2]; exact h6) q1 q3 (by rw [hsl]; exact k2_hasslot (q4 k hk)) rfl rfl hdg fun H' e1 e2 e3 => ?_
  rw [hsl] at e1 ⊢
  rw [← hup.1, ← hup.2.1]
  rw [← hup.1] at g1
  rw [← hup.2.1] at g2
  refine h3 X hX g1 g2 g3 g4 H' _ L (vRel_put hR h0 hc hcl hk hvf hap q1 e1 e2 e3 hup (by rw [← rv_fvv, hv])) (hS.put e2 e3 (show X.E.1 ≤ adr X.E a by rw [hR.adr h0]; omega)) hL
/-- a final field, in its class's constructor -/
theorem V_putF {S : List Nat} {a k ty index : Nat} {name desc : String} {fty : FieldType} {v : Value} (hC : vPx P cc nL own ret d) (hdg : decode cc pc = .ok (.putfield index, 3)) (hI : ∀ X, P X → X.meth.name = "<init>") (hq : Cond.fieldLink own index own name desc ∈ lw_all) (htab : ∀ c ∈ S, vFld c k ty own name desc) (hdc : ∀ c ∈ S, ∀ C T N, vcl[c]? = some (C, T, N) → (T k).1 = own) (htabW : ∀ c ∈ S, vFldW c k true desc fty) (hup : vUp σ σ' a k) (hv : fvv σ' a k ty = v) (hn : ∀ E, narrow fty (rv E v) = rv E v) (hfit : ∀ E, fits fty (rv E v) = true) (kk : V P emb σ' (pc + 3) ls st t) : V P emb σ pc ls (v :: .ref a :: st) (cko σ a S t) := by
  refine V_cko (fun hm => ?_)
  obtain ⟨h0, hc, C, T, N, hcl, hin, hk, hnm, hds, hsame, hvf⟩ := htab _ hm
  obtain ⟨C', T', N', ty0, hcl', hfin, hnms, hty0, hpd⟩ := htabW _ hm
  have hdecl := hdc _ hm _ _ _ hcl
  cases hcl.symm.trans hcl'
  subst hnm
  subst hds
  intro r hr
  obtain ⟨h1, h2, h3⟩ := kk r hr
  refine V_up (a := a) (k := k) (σ' := σ') hup ⟨h1, h2, fun X hX g1 g2 g3 g4 H locs L hR hS hL => ?_⟩
  have ha := hR.lt h0
  have h9 := hR.P a _ (wl_get ha)
  rw [ent_obj rfl hc, ← hR.adr h0] at h9
  obtain ⟨r9, f1, cell, q1, q2, q3, q4⟩ := h9
  have hr9 : r9 = (C, T, N) := Option.some.inj (f1.symm.trans hcl)
  subst hr9
  have q1 : H[adr X.E a]? = some cell := q1
  obtain ⟨hSl, hfc, kC, hkC, hkind⟩ := (hC X hX).kn.1.1 (knd σ a) _ hcl
  obtain ⟨cf, kf, fi, f, hi, hsl⟩ := hSl k hk
  have hap : ∀ j, j < N → j ≠ k → X.D.2 (knd σ a) j ≠ X.D.2 (knd σ a) k := by
    intro j hj hjk
    obtain ⟨_, _, _, fa, hia, ea⟩ := hSl j hj
    rw [← ea, ← hsl]
    refine u_apart (u_lays (hC X hX).ts hin hj) (u_lays (hC X hX).ts hin hk) hia hi ?_
    rw [(State.fieldFound?_type hia (hty0 j hj)).1, (State.fieldFound?_type hi (hty0 k hk)).1]
    exact hnms j hj hjk
  have hlay := (hC X hX).ts _ (hin _ (u_in_lay hk))
  unfold u_lay at hlay
  rw [if_pos hfin] at hlay
  have hst := (u_facts hfc hkC (u_lays (hC X hX).ts hin hk) hi).1
  have hcf : X.m.cls = cf := by
    obtain ⟨_, _, c', _, _, _, -, -, hf', -, -, -, hown2, -⟩ := Cond.laysFinal_spec hlay
    have e1 : c' = cf := by have := hi.symm.trans hf'; simp at this; exact this.1.symm
    rw [hdecl] at hown2
    rw [← e1]; exact Option.some.inj ((hC X hX).hown.symm.trans hown2)
  have h6 := u_fits hfc hkC hkind (Or.inr hlay) hi hpd (hn X.E) (hfit X.E)
  refine W.putFinK (hC X hX).exec (hC X hX).code (hC X hX).hown ((hC X hX).ts _ hq) (vFld_same (hC X hX).ts hsame _ hi) hst hcf (hI X hX) (by rw [q2]; exact h6) q1 q3 (by rw [hsl]; exact k2_hasslot (q4 k hk)) rfl rfl hdg fun H' e1 e2 e3 => ?_
  rw [hsl] at e1 ⊢
  rw [← hup.1, ← hup.2.1]
  rw [← hup.1] at g1
  rw [← hup.2.1] at g2
  refine h3 X hX g1 g2 g3 g4 H' _ L (vRel_put hR h0 hc hcl hk hvf hap q1 e1 e2 e3 hup (by rw [← rv_fvv, hv])) (hS.put e2 e3 (show X.E.1 ≤ adr X.E a by rw [hR.adr h0]; omega)) hL
/-- .. where another final field, of another class, may have its name -/
theorem V_putF2 {S : List Nat} {a k ty index : Nat} {name desc : String} {fty : FieldType} {v : Value} (hC : vPx P cc nL own ret d) (hdg : decode cc pc = .ok (.putfield index, 3)) (hI : ∀ X, P X → X.meth.name = "<init>") (hq : Cond.fieldLink own index own name desc ∈ lw_all) (htab : ∀ c ∈ S, vFld c k ty own name desc) (hdc : ∀ c ∈ S, ∀ C T N, vcl[c]? = some (C, T, N) → (T k).1 = own) (htabW : ∀ c ∈ S, vFldW2 c k desc fty) (hup : vUp σ σ' a k) (hv : fvv σ' a k ty = v) (hn : ∀ E, narrow fty (rv E v) = rv E v) (hfit : ∀ E, fits fty (rv E v) = true) (kk : V P emb σ' (pc + 3) ls st t) : V P emb σ pc ls (v :: .ref a :: st) (cko σ a S t) := by
  refine V_cko (fun hm => ?_)
  obtain ⟨h0, hc, C, T, N, hcl, hin, hk, hnm, hds, hsame, hvf⟩ := htab _ hm
  obtain ⟨C', T', N', ty0, hcl', hfin, hnms, hty0, hpd⟩ := htabW _ hm
  have hdecl := hdc _ hm _ _ _ hcl
  cases hcl.symm.trans hcl'
  subst hnm
  subst hds
  intro r hr
  obtain ⟨h1, h2, h3⟩ := kk r hr
  refine V_up (a := a) (k := k) (σ' := σ') hup ⟨h1, h2, fun X hX g1 g2 g3 g4 H locs L hR hS hL => ?_⟩
  have ha := hR.lt h0
  have h9 := hR.P a _ (wl_get ha)
  rw [ent_obj rfl hc, ← hR.adr h0] at h9
  obtain ⟨r9, f1, cell, q1, q2, q3, q4⟩ := h9
  have hr9 : r9 = (C, T, N) := Option.some.inj (f1.symm.trans hcl)
  subst hr9
  have q1 : H[adr X.E a]? = some cell := q1
  obtain ⟨hSl, hfc, kC, hkC, hkind⟩ := (hC X hX).kn.1.1 (knd σ a) _ hcl
  obtain ⟨cf, kf, fi, f, hi, hsl⟩ := hSl k hk
  have hap : ∀ j, j < N → j ≠ k → X.D.2 (knd σ a) j ≠ X.D.2 (knd σ a) k := by
    intro j hj hjk
    obtain ⟨_, _, _, fa, hia, ea⟩ := hSl j hj
    rw [← ea, ← hsl]
    rcases hnms j hj hjk with hne | ⟨hfj, hne⟩
    · refine u_apart (u_lays (hC X hX).ts hin hj) (u_lays (hC X hX).ts hin hk) hia hi ?_
      rw [(State.fieldFound?_type hia (hty0 j hj)).1, (State.fieldFound?_type hi (hty0 k hk)).1]
      exact hne
    · have l1 := (hC X hX).ts _ (hin _ (u_in_lay hj))
      have l2 := (hC X hX).ts _ (hin _ (u_in_lay hk))
      unfold u_lay at l1 l2
      rw [if_pos hfj] at l1
      rw [if_pos hfin] at l2
      exact u_apart2 l1 l2 hia hi hne
  have hlay := (hC X hX).ts _ (hin _ (u_in_lay hk))
  unfold u_lay at hlay
  rw [if_pos hfin] at hlay
  have hst := (u_facts hfc hkC (u_lays (hC X hX).ts hin hk) hi).1
  have hcf : X.m.cls = cf := by
    obtain ⟨_, _, c', _, _, _, -, -, hf', -, -, -, hown2, -⟩ := Cond.laysFinal_spec hlay
    have e1 : c' = cf := by have := hi.symm.trans hf'; simp at this; exact this.1.symm
    rw [hdecl] at hown2
    rw [← e1]; exact Option.some.inj ((hC X hX).hown.symm.trans hown2)
  have h6 := u_fits hfc hkC hkind (Or.inr hlay) hi hpd (hn X.E) (hfit X.E)
  refine W.putFinK (hC X hX).exec (hC X hX).code (hC X hX).hown ((hC X hX).ts _ hq) (vFld_same (hC X hX).ts hsame _ hi) hst hcf (hI X hX) (by rw [q2]; exact h6) q1 q3 (by rw [hsl]; exact k2_hasslot (q4 k hk)) rfl rfl hdg fun H' e1 e2 e3 => ?_
  rw [hsl] at e1 ⊢
  rw [← hup.1, ← hup.2.1]
  rw [← hup.1] at g1
  rw [← hup.2.1] at g2
  refine h3 X hX g1 g2 g3 g4 H' _ L (vRel_put hR h0 hc hcl hk hvf hap q1 e1 e2 e3 hup (by rw [← rv_fvv, hv])) (hS.put e2 e3 (show X.E.1 ≤ adr X.E a by rw [hR.adr h0]; omega)) hL
theorem V_putfN {S : List Nat} {a k ty index : Nat} {ref name desc host : String} {fty : FieldType} {v : Value} (hC : vPx P cc nL own ret d) (hdg : decode cc pc = .ok (.putfield index, 3)) (hq : Cond.fieldLinkNest own index ref name desc host ∈ lw_tbl) (htab : ∀ c ∈ S, vFld c k ty ref name desc) (htabW : ∀ c ∈ S, vFldW c k false desc fty) (hup : vUp σ σ' a k) (hv : fvv σ' a k ty = v) (hn : ∀ E, narrow fty (rv E v) = rv E v) (hfit : ∀ E, fits fty (rv E v) = true) (kk : V P emb σ' (pc + 3) ls st t) : V P emb σ pc ls (v :: .ref a :: st) (cko σ a S t) := by
  refine V_cko (fun hm => ?_)
  obtain ⟨h0, hc, C, T, N, hcl, hin, hk, hnm, hds, hsame, hvf⟩ := htab _ hm
  obtain ⟨C', T', N', ty0, hcl', hfin, hnms, hty0, hpd⟩ := htabW _ hm
  cases hcl.symm.trans hcl'
  subst hnm
  subst hds
  intro r hr
  obtain ⟨h1, h2, h3⟩ := kk r hr
  refine V_up (a := a) (k := k) (σ' := σ') hup ⟨h1, h2, fun X hX g1 g2 g3 g4 H locs L hR hS hL => ?_⟩
  have ha := hR.lt h0
  have h9 := hR.P a _ (wl_get ha)
  rw [ent_obj rfl hc, ← hR.adr h0] at h9
  obtain ⟨r9, f1, cell, q1, q2, q3, q4⟩ := h9
  have hr9 : r9 = (C, T, N) := Option.some.inj (f1.symm.trans hcl)
  subst hr9
  have q1 : H[adr X.E a]? = some cell := q1
  obtain ⟨hSl, hfc, kC, hkC, hkind⟩ := (hC X hX).kn.1.1 (knd σ a) _ hcl
  obtain ⟨cf, kf, fi, f, hi, hsl⟩ := hSl k hk
  have hap : ∀ j, j < N → j ≠ k → X.D.2 (knd σ a) j ≠ X.D.2 (knd σ a) k := by
    intro j hj hjk
    obtain ⟨_, _, _, fa, hia, ea⟩ := hSl j hj
    rw [← ea, ← hsl]
    refine u_apart (u_lays (hC X hX).ts hin hj) (u_lays (hC X hX).ts hin hk) hia hi ?_
    rw [(State.fieldFound?_type hia (hty0 j hj)).1, (State.fieldFound?_type hi (hty0 k hk)).1]
    exact hnms j hj hjk
  have hlay := (hC X hX).ts _ (hin _ (u_in_lay hk))
  unfold u_lay at hlay
  rw [if_neg (by rw [hfin]; decide)] at hlay
  have hst := (u_facts hfc hkC (u_lays (hC X hX).ts hin hk) hi).1
  have h6 := u_store hfc hkC hkind hlay hi hpd (hn X.E) (hfit X.E)
  refine va_WputK (hC X hX).exec (hC X hX).code (f := f) (hC X hX).hown (va_Nw.use rfl ((hC X hX).kn.2.1 _ (vNest_in hq rfl))) (vFld_same (hC X hX).ts hsame _ hi) hst (by rw [q2]; exact h6) q1 q3 (by rw [hsl]; exact k2_hasslot (q4 k hk)) rfl rfl hdg fun H' e1 e2 e3 => ?_
  rw [hsl] at e1 ⊢
  rw [← hup.1, ← hup.2.1]
  rw [← hup.1] at g1
  rw [← hup.2.1] at g2
  refine h3 X hX g1 g2 g3 g4 H' _ L (vRel_put hR h0 hc hcl hk hvf hap q1 e1 e2 e3 hup (by rw [← rv_fvv, hv])) (hS.put e2 e3 (show X.E.1 ≤ adr X.E a by rw [hR.adr h0]; omega)) hL
end VPUT
