/-! ROWS: arrays of arrays, arrays of objects, this$0 of a Course -/
set_option maxRecDepth 100000
/-- n arrays of kind k, m long, behind an array of kind K that holds them -/
def mlt (σ : vMem) (K k n m : Nat) : vMem := (fun b j => if mn σ ≤ b ∧ b < mn σ + 1 + n then 0 else σ.1 b j, fun b j => if mn σ ≤ b ∧ b < mn σ + 1 + n then 0 else σ.2.1 b j, fun b j => if b = mn σ then (if j < n then some (mn σ + 1 + j) else none) else if mn σ ≤ b ∧ b < mn σ + 1 + n then none else σ.2.2.1 b j, fun b => if b = mn σ then (K, n) else if mn σ ≤ b ∧ b < mn σ + 1 + n then (k, m) else σ.2.2.2.1 b, mn σ + (1 + n), mz σ + (n + n * m))
def nwm {α : Type} (σ : vMem) (K k : Nat) (i j : Int32) (f : Nat → vMem → Option α) : Option α := if (¬ i < 0 ∧ ¬ j < 0) ∧ mn σ + (1 + i.toNatClampNeg) ≤ SB ∧ i.toNatClampNeg ≤ 1000000 ∧ j.toNatClampNeg ≤ 1000000 then f (mn σ) (mlt σ K k i.toNatClampNeg j.toNatClampNeg) else none
theorem vRel_ext {E : vEnv} {D : va_G} {dA : Nat → ClassId} {σ σ' : vMem} {H H1 : Heap} {k : Nat} (h : vRel E D dA σ H) (hs : mn σ + k ≤ SB) (hz : H1.size = H.size + k) (ho : ∀ q, q < H.size → H1[q]? = H[q]?) (hn : mn σ' = mn σ + k) (hk : ∀ b, mn σ + k ≤ b → knd σ' b = 0) (hold : ∀ b, b < mn σ → ent E dA σ' b = ent E dA σ b) (he : ∀ j, j < k → va_at D vcl (E.1 + (mn σ + j), ent E dA σ' (mn σ + j)) H1) : vRel E D dA σ' H1 := by
  have h1 := h.1
  refine ⟨by rw [hz, hn]; omega, by rw [hn]; omega, by rw [hn]; exact hk, fun b hb => ?_⟩
  rw [hn] at hb
  by_cases hlt : b < mn σ
  · rw [hold b hlt]
    exact (h.2.2.2 b hlt).kept (ho _ (by show E.1 + b < H.size; omega))
  · obtain ⟨j, rfl⟩ : ∃ j, b = mn σ + j := ⟨b - mn σ, by omega⟩
    exact he j (by omega)
theorem vS_ext {E : vEnv} {H0 H H1 : Heap} {locs : List Loc} (hS : va_S (vA E) H0 H locs) (hz : H.size ≤ H1.size) (ho : ∀ q, q < H.size → H1[q]? = H[q]?) : va_S (vA E) H0 H1 locs :=
  ⟨Nat.le_trans hS.1 hz, fun x h1 h2 => (ho x (Nat.lt_of_lt_of_le h1 hS.1)).trans (hS.2.1 x h1 h2), hS.2.2⟩
theorem arrV_congr {c : ClassId} {N : Nat} {f g : Nat → Value} (h : ∀ j, j < N → f j = g j) : arrV c N f = arrV c N g := by
  unfold arrV
  rw [show (fun j : Fin N => f j.val) = fun j : Fin N => g j.val from funext fun j => h j.val j.isLt]
theorem outer_arr0 (c : ClassId) (N h0 : Nat) : ∀ i, Jvm.Free.Multi.outerC c N h0 i = arrV c N (fun j => if j < i then .ref (h0 + 1 + j) else .null)
  | 0 => by
    show ({ cls := c, slots := Array.replicate N .null, vm := .none } : Cell) = _
    rw [arrV_new]
    exact arrV_congr (fun j _ => by rw [if_neg (Nat.not_lt_zero j)])
  | i + 1 => by
    show (Jvm.Free.Multi.outerC c N h0 i).setSlot i (.ref (h0 + 1 + i)) = _
    rw [outer_arr0 c N h0 i, arrV_store]
    refine arrV_congr (fun j _ => ?_)
    show (if j = i then _ else if j < i then _ else _) = _
    by_cases e : j = i
    · subst e
      rw [if_pos rfl, if_pos (Nat.lt_succ_self j)]
    · rw [if_neg e]
      by_cases h : j < i
      · rw [if_pos h, if_pos (by omega)]
      · rw [if_neg h, if_neg (by omega)]
theorem outer_arr {c : ClassId} {N h0 : Nat} (f : Nat → Value) (hf : ∀ j, j < N → f j = .ref (h0 + 1 + j)) : Jvm.Free.Multi.outerC c N h0 N = arrV c N f := by
  rw [outer_arr0]
  exact arrV_congr (fun j hj => by rw [if_pos hj, hf j hj])
section VMORE
variable {α : Type} {P : vX → Prop} {emb : α → vRes} {cc : ByteArray} {nL : Nat} {own : String} {ret : Option FieldType} {d : Nat} {σ : vMem} {pc : Nat} {ls : List (Option Value)} {st rest : List Value} {t : Option α}
theorem mlt_knd0 {K k n m : Nat} : knd (mlt σ K k n m) (mn σ) = K := by
  show (if mn σ = mn σ then (K, n) else _).1 = K
  rw [if_pos rfl]
theorem mlt_len0 {K k n m : Nat} : len (mlt σ K k n m) (mn σ) = n := by
  show (if mn σ = mn σ then (K, n) else _).2 = n
  rw [if_pos rfl]
theorem mlt_gr0 {K k n m j : Nat} (hj : j < n) : gr (mlt σ K k n m) (mn σ) j = some (mn σ + 1 + j) := by
  show (if mn σ = mn σ then (if j < n then some (mn σ + 1 + j) else none) else _) = _
  rw [if_pos rfl, if_pos hj]
theorem mlt_in {K k n m j : Nat} (hj : j < n) : (mlt σ K k n m).2.2.2.1 (mn σ + (1 + j)) = (k, m) := by
  show (if mn σ + (1 + j) = mn σ then (K, n) else if mn σ ≤ mn σ + (1 + j) ∧ mn σ + (1 + j) < mn σ + 1 + n then (k, m) else _) = _
  rw [if_neg (by omega), if_pos (by omega)]
theorem mlt_gi {K k n m j i : Nat} (hj : j < n) : gi (mlt σ K k n m) (mn σ + (1 + j)) i = 0 := by
  show (if mn σ ≤ mn σ + (1 + j) ∧ mn σ + (1 + j) < mn σ + 1 + n then (0 : Int32) else _) = _
  rw [if_pos (by omega)]
theorem mlt_gl {K k n m j i : Nat} (hj : j < n) : gl (mlt σ K k n m) (mn σ + (1 + j)) i = 0 := by
  show (if mn σ ≤ mn σ + (1 + j) ∧ mn σ + (1 + j) < mn σ + 1 + n then (0 : Int64) else _) = _
  rw [if_pos (by omega)]
theorem mlt_old {E : vEnv} {dA : Nat → ClassId} {K k n m b : Nat} (hb : b < mn σ) : ent E dA (mlt σ K k n m) b = ent E dA σ b :=
  ent_congr (by show (if b = mn σ then _ else if _ then _ else _) = _; rw [if_neg (by omega), if_neg (by omega)]) (fun j => by show (if _ then _ else _) = _; rw [if_neg (by omega)]; rfl) (fun j => by show (if _ then _ else _) = _; rw [if_neg (by omega)]; rfl) (fun j => by show (if b = mn σ then _ else if _ then _ else _) = _; rw [if_neg (by omega), if_neg (by omega)]; rfl)
theorem V_multi {K k t0 t1 index : Nat} {ty : FieldType} {nm : String} {i j : Int32} {f : Nat → vMem → Option α} (hC : vPx P cc nL own ret d) (hdg : decode cc pc = .ok (.multianewarray index 2, 4)) (q1 : Cond.classLink own index nm ∈ lw_all) (hnm : "[" ++ (FieldType.array ty).toString = nm) (q2 : FieldType.array ty ∈ vOver) (q3 : Cond.arrayClass ty ∈ lw_all) (hK1 : 110 ≤ K) (hk1 : 100 ≤ k) (ht : ∀ dA : Nat → ClassId, (vtys dA)[t0]? = some (dA K, .array ty)) (ht1 : ∀ dA : Nat → ClassId, (vtys dA)[t1]? = some (dA k, ty)) (hty : ∀ C, ty ≠ .object C) (hs9 : (FieldType.array ty).toString = "[" ++ ty.toString) (hby : componentBytes ty ≤ 8) (hdf : fits ty (defaultValue ty) = true) (hdd : (defaultValue ty).isDefault = true)
    (hcell : ∀ (E : vEnv) (dA : Nat → ClassId) (σ' : vMem) (a N : Nat), σ'.2.2.2.1 a = (k, N) → (∀ i, gi σ' a i = 0) → (∀ i, gl σ' a i = 0) → arrV (dA k) N (fun _ => defaultValue ty) = vp_cell (dA k) (arrc E σ' a)) (kk : ∀ a σ1, V P emb σ1 (pc + 4) ls (.ref a :: st) (f a σ1)) : V P emb σ pc ls (.int j :: .int i :: st) (nwm σ K k i j f) := by
  intro r hr
  unfold nwm at hr
  by_cases hh : (¬ i < 0 ∧ ¬ j < 0) ∧ mn σ + (1 + i.toNatClampNeg) ≤ SB ∧ i.toNatClampNeg ≤ 1000000 ∧ j.toNatClampNeg ≤ 1000000
  · rw [if_pos hh] at hr
    obtain ⟨⟨hi, hj⟩, hs, hb, hb2⟩ := hh
    generalize hN : i.toNatClampNeg = N at hr hs hb
    generalize hM : j.toNatClampNeg = M at hr hb2
    obtain ⟨h1, h2, h3⟩ := kk (mn σ) (mlt σ K k N M) r hr
    have e1 : mn (mlt σ K k N M) = mn σ + (1 + N) := rfl
    have e2 : mz (mlt σ K k N M) = mz σ + (N + N * M) := rfl
    rw [e1] at h1
    rw [e2] at h2
    refine ⟨by omega, by omega, fun X hX g1 g2 g3 g4 H locs L hR hS hL => ?_⟩
    have hKn := (hC X hX).kn
    intro T hT XS
    subst hT
    obtain ⟨vm₁, cA, comp, hW, hfA, hfC, -, -, X1, step⟩ := XS.multianewarray2F (hC X hX).exec (own := own) (index := index) (ty := ty) (hC X hX).hown (by rw [hnm]; exact (hC X hX).ts _ q1) (hKn.2.2.1 _ q2) ((hC X hX).ts _ q3) (g := F0 X.m pc L ((Value.int j :: .int i :: st).map (rv X.E))) rfl (by rw [(hC X hX).code]; exact hdg) (n := i) (k := j) (rest := st.map (rv X.E)) rfl hi hj (by omega) (by rw [hM]; exact Nat.le_trans (Nat.mul_le_mul hb2 hby) (Nat.le_of_ble_eq_true rfl)) (by omega) hdf hdd (by rw [hN]; omega) (by rw [hN, hM]; omega)
    rw [hN, hM] at X1 step
    have hcA : cA = X.dA K := by
      have h9 := (hKn.1.2 t0 _ (ht X.dA)).2
      exact Option.some.inj (hfA.symm.trans h9)
    have hcC : comp = X.dA k := by
      have h9 := vArrN hty hKn (ht1 X.dA)
      rw [← hs9] at h9
      exact Option.some.inj (hfC.symm.trans h9)
    subst hcA
    subst hcC
    obtain ⟨f1, f2, f3, f4⟩ := Jvm.Free.Multi.fill_facts (T.setVm vm₁) (X.dA K) (X.dA k) N M (defaultValue ty) N
    have hz : (T.setVm vm₁).heap.size = T.heap.size := rfl
    have ho : ∀ q, q < T.heap.size → (Jvm.Free.Multi.fill (T.setVm vm₁) (X.dA K) (X.dA k) N M (defaultValue ty) N).heap[q]? = T.heap[q]? := fun q hq => Jvm.Free.Multi.fill_old (T.setVm vm₁) (X.dA K) (X.dA k) N M (defaultValue ty) hq N
    have hin := fun q hq => Jvm.Free.Multi.fill_inner (T.setVm vm₁) (X.dA K) (X.dA k) N M (defaultValue ty) N q hq
    rw [hz] at f1 f2 hin
    generalize Jvm.Free.Multi.fill (T.setVm vm₁) (X.dA K) (X.dA k) N M (defaultValue ty) N = T1 at X1 step f1 f2 f3 f4 ho hin
    have hsz := hR.1
    have hadr : adr X.E (mn σ) = T.heap.size := by rw [adr_lt (by omega), hsz]
    have hrel : vRel X.E X.D X.dA (mlt σ K k N M) T1.heap := by
      refine vRel_ext (k := 1 + N) hR hs (by rw [f1]; omega) ho rfl (fun b hb9 => ?_) (fun b hb9 => mlt_old hb9) (fun q hq => ?_)
      · show (if b = mn σ then (K, N) else if mn σ ≤ b ∧ b < mn σ + 1 + N then (k, M) else σ.2.2.2.1 b).1 = 0
        rw [if_neg (by omega), if_neg (by omega)]
        exact hR.2.2.1 b (by omega)
      · cases q with
        | zero =>
          rw [Nat.add_zero, ent_ref mlt_knd0 hK1]
          show T1.heap[X.E.1 + mn σ]? = some (vp_cell _ _)
          rw [← hsz, f2, vp_cell_q, mlt_len0]
          congr 1
          refine outer_arr _ (fun q hq => ?_)
          rw [mlt_gr0 hq]
          show Value.ref (adr X.E (mn σ + 1 + q)) = _
          rw [adr_lt (show mn σ + 1 + q < SB by omega)]
          have e5 : X.E.1 + (mn σ + 1 + q) = T.heap.size + 1 + q := by omega
          rw [e5]
        | succ q =>
          have hq9 : q < N := by omega
          have e9 : mn σ + (q + 1) = mn σ + (1 + q) := by omega
          rw [e9]
          have hkn : knd (mlt σ K k N M) (mn σ + (1 + q)) = k := by unfold knd; rw [mlt_in hq9]
          unfold ent
          rw [hkn, if_neg (by omega)]
          show T1.heap[X.E.1 + (mn σ + (1 + q))]? = some (vp_cell _ _)
          have e8 : X.E.1 + (mn σ + (1 + q)) = T.heap.size + 1 + q := by omega
          rw [e8, hin q hq9]
          show some ({ cls := X.dA k, slots := Array.replicate M (defaultValue ty), vm := .none } : Cell) = _
          rw [arrV_new, hcell X.E X.dA (mlt σ K k N M) (mn σ + (1 + q)) M (mlt_in hq9) (fun i => mlt_gi hq9) (fun i => mlt_gl hq9)]
    have k9 := h3 X hX (by omega) (by omega) g3 g4 T1.heap locs L hrel (vS_ext hS (by rw [f1]; omega) ho) hL
    have c1 : mn (mlt σ K k N M) - X.n0 = mn σ - X.n0 + 1 + N := by rw [e1]; omega
    have c2 : mz (mlt σ K k N M) - X.s0 = mz σ - X.s0 + N + N * M := by rw [e2]; omega
    rw [c1, c2] at k9
    obtain ⟨t9, a1, b1⟩ := k9 T1 rfl X1
    refine ⟨t9, step t9 ?_, b1⟩
    have e7 : rv X.E (.ref (mn σ)) = .ref T.heap.size := by show Value.ref (adr X.E (mn σ)) = _; rw [hadr]
    rw [List.map_cons, e7] at a1
    exact a1
  · rw [if_neg hh] at hr
    cases hr
theorem vp_int0 {E : vEnv} {dA : Nat → ClassId} {k : Nat} (h1 : 100 ≤ k) (h2 : k < 106) (σ' : vMem) (a N : Nat) (hk : σ'.2.2.2.1 a = (k, N)) (h0 : ∀ i, gi σ' a i = 0) : arrV (dA k) N (fun _ => .int 0) = vp_cell (dA k) (arrc E σ' a) := by
  have e1 : knd σ' a = k := by unfold knd; rw [hk]
  have e2 : len σ' a = N := by unfold len; rw [hk]
  unfold arrc
  rw [e1, e2, if_neg (by omega), if_neg (by omega), vp_cell_i]
  congr 1
  funext j
  rw [h0 j]
theorem vp_long0 {E : vEnv} {dA : Nat → ClassId} (σ' : vMem) (a N : Nat) (hk : σ'.2.2.2.1 a = (106, N)) (h0 : ∀ i, gl σ' a i = 0) : arrV (dA 106) N (fun _ => .long 0) = vp_cell (dA 106) (arrc E σ' a) := by
  have e1 : knd σ' a = 106 := by unfold knd; rw [hk]
  have e2 : len σ' a = N := by unfold len; rw [hk]
  unfold arrc
  rw [e1, e2, if_pos rfl]
  show _ = arrV _ _ (fun j => .long (gl _ _ j))
  congr 1
  funext j
  rw [h0 j]
theorem V_multi_I {index : Nat} {i j : Int32} {f : Nat → vMem → Option α} (hC : vPx P cc nL own ret d) (hdg : decode cc pc = .ok (.multianewarray index 2, 4)) (q1 : Cond.classLink own index "[[I" ∈ lw_all) (q3 : Cond.arrayClass .int ∈ lw_all) (kk : ∀ a σ1, V P emb σ1 (pc + 4) ls (.ref a :: st) (f a σ1)) : V P emb σ pc ls (.int j :: .int i :: st) (nwm σ 112 105 i j f) :=
  V_multi (t0 := 8) (t1 := 4) hC hdg q1 (by decide +kernel) (by simp [vOver]) q3 (by decide) (by decide) (fun _ => rfl) (fun _ => rfl) (fun _ h => by cases h) (by decide +kernel) (by decide) rfl rfl (fun E dA σ' a N hk h0 _ => vp_int0 (by decide) (by decide) σ' a N hk h0) kk
theorem V_multi_J {index : Nat} {i j : Int32} {f : Nat → vMem → Option α} (hC : vPx P cc nL own ret d) (hdg : decode cc pc = .ok (.multianewarray index 2, 4)) (q1 : Cond.classLink own index "[[J" ∈ lw_all) (q3 : Cond.arrayClass .long ∈ lw_all) (kk : ∀ a σ1, V P emb σ1 (pc + 4) ls (.ref a :: st) (f a σ1)) : V P emb σ pc ls (.int j :: .int i :: st) (nwm σ 113 106 i j f) :=
  V_multi (t0 := 9) (t1 := 5) hC hdg q1 (by decide +kernel) (by simp [vOver]) q3 (by decide) (by decide) (fun _ => rfl) (fun _ => rfl) (fun _ h => by cases h) (by decide +kernel) (by decide) rfl rfl (fun E dA σ' a N hk _ h0 => vp_long0 σ' a N hk h0) kk
theorem V_multi_Z {index : Nat} {i j : Int32} {f : Nat → vMem → Option α} (hC : vPx P cc nL own ret d) (hdg : decode cc pc = .ok (.multianewarray index 2, 4)) (q1 : Cond.classLink own index "[[Z" ∈ lw_all) (q3 : Cond.arrayClass .boolean ∈ lw_all) (kk : ∀ a σ1, V P emb σ1 (pc + 4) ls (.ref a :: st) (f a σ1)) : V P emb σ pc ls (.int j :: .int i :: st) (nwm σ 114 101 i j f) :=
  V_multi (t0 := 10) (t1 := 0) hC hdg q1 (by decide +kernel) (by simp [vOver]) q3 (by decide) (by decide) (fun _ => rfl) (fun _ => rfl) (fun _ h => by cases h) (by decide +kernel) (by decide) rfl rfl (fun E dA σ' a N hk h0 _ => vp_int0 (by decide) (by decide) σ' a N hk h0) kk
theorem V_newqC {k t0 index : Nat} {C : String} {i : Int32} {f : Nat → vMem → Option α} (hC : vPx P cc nL own ret d) (hdg : decode cc pc = .ok (.anewarray index, 3)) (q1 : Cond.classLink own index C ∈ lw_all) (q2 : FieldType.object C ∈ vOver) (hk1 : 110 ≤ k) (ht : ∀ dA : Nat → ClassId, (vtys dA)[t0]? = some (dA k, .object C)) (kk : ∀ a σ1, V P emb σ1 (pc + 3) ls (.ref a :: st) (f a σ1)) : V P emb σ pc ls (.int i :: st) (nwa σ k i f) :=
  V_newq hC hdg q1 (fun X hX => (hC X hX).kn.2.2.1 _ q2) hk1 ht kk
end VMORE
