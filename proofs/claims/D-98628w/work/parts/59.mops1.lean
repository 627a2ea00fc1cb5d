/-! THE MODEL'S ACTS: rows told, steps, messes, undo -/
set_option maxRecDepth 100000
def RSM : List Nat := [0, 1, 2, 3, 4, 5, 6, 7, 8, 9, 10]
abbrev FM (σ σ' : vMem) : Prop := Fr (KM RSM) 0 0 σ σ'
theorem M_thrown {S : St} {σ : vMem} (h : RM S σ) (v : Int32) : RM S (si σ 161 0 v) := h.u0 (Fr.rf.wm 0 rfl (by decide))
theorem FM_thrown {σ : vMem} {v : Int32} : FM σ (si σ 161 0 v) := Fr.rf.wm 0 rfl (by decide)
theorem M_row0 {S : St} {σ : vMem} (h : RM S σ) : RM (row0 S) (si σ 161 1 (i32 ((0 : Nat) : Int))) := h.uRow (Fr.rf.wm 7 rfl (by decide)) ⟨rfl, fun k hk => by cases hk⟩
theorem F_row0 {σ : vMem} {v : Int32} : Fr (KM [7]) 0 0 σ (si σ 161 1 v) := Fr.rf.wm 7 rfl (by decide)
theorem M_enters {S : St} {σ : vMem} (h : RM S σ) (hr : S.row.1 < 40) (v : Int64) : ok (f_X3_enters σ 161 v) (fun σ' => RM (rowA S v) σ' ∧ Fr (KM [7]) 0 0 σ σ') := by
  have hm := h.ml
  have h1 := h.row.1
  unfold f_X3_enters
  simp (disch := omega) only [vl_s, bp_s, bd_s, bv_s, i32_nl, i32_n, i32_add, i32_sub, i32_mul, i32_neg, i32_ca, i32_cm, i32_cs, i32_cn, i32_le, i32_lt, i32_eq, i32_cl, Int.toNat_natCast, if_pos, if_neg, ite_true, ite_false, not_true_eq_false, not_false_eq_true, Nat.add_zero, Nat.zero_add, Nat.add_sub_cancel, ck_p, cko_si, cka_si, cko_sl, cka_sl, gi_e, gi_x, gl_e, gl_x, gr_si, gl_si, gi_sl, gr_sl, cko_c hm.k (show 3 ∈ [3] by decide), dr_c hm.r2, dr_c hm.r9, dr_c hm.r10, dr_c hm.r11, dr_c hm.r12, dr_c hm.r13, dr_c hm.r14, dr_c hm.r15, dr_c hm.r16, dr_c hm.r21, dr_c hm.r23, dr_c hm.r24, dr_c hm.r27, dr_c hm.r28, dr_c hm.r30, dr_c hm.r33, dr_c hm.r34, dr_c hm.r36, dr_c hm.r37, dr_c hm.r38, dr_c hm.r41, dr_c hm.r43, dr_c hm.r44, dr_c hm.r45, dr_c hm.r46, dr_c hm.r47, dr_c hm.r50, dr_c hm.r51, dr_c hm.r52, cka_i hm.k162 hm.l162, cka_i hm.k163 hm.l163, cka_i hm.k164 hm.l164, cka_i hm.k165 hm.l165, cka_i hm.k166 hm.l166, cka_i hm.k167 hm.l167, cka_i hm.k168 hm.l168, cka_i hm.k169 hm.l169, cka_i hm.k170 hm.l170, cka_i hm.k171 hm.l171, cka_i hm.k172 hm.l172, cka_i hm.k173 hm.l173, cka_i hm.k174 hm.l174, cka_i hm.k175 hm.l175, cka_i hm.k176 hm.l176, cka_i hm.k177 hm.l177, cka_i hm.k178 hm.l178, cka_i hm.k179 hm.l179, cka_i hm.k180 hm.l180, cka_i hm.k181 hm.l181, cka_i hm.k182 hm.l182, cka_i hm.k183 hm.l183, cka_i hm.k184 hm.l184, cka_i hm.k185 hm.l185, cka_i hm.k186 hm.l186, cka_i hm.k187 hm.l187, cka_i hm.k188 hm.l188, cka_i hm.k189 hm.l189, cka_i hm.k190 hm.l190, h1]
  have F : Fr (KM [7]) 0 0 σ (si (sl σ 162 S.row.1 v) 161 1 (i32 (S.row.1 + 1 : Nat))) := (Fr.rf.wml 7 rfl (by decide)).wm 7 rfl (by decide)
  refine ok_some ⟨h.uRow (F.sub (by decide)) ⟨?_, fun k hk => ?_⟩, F⟩
  · simp (disch := omega) only [cko_si, cka_si, cko_sl, cka_sl, gi_e, gi_x, gl_e, gl_x, gr_si, gl_si, gi_sl, gr_sl]
  · show gl (sl σ 162 S.row.1 v) 162 k = up1 S.row.2 S.row.1 v k
    by_cases e : k = S.row.1
    · subst e
      rw [gl_e ⟨rfl, rfl⟩, up1_same]
    · rw [gl_x (fun q => e q.2), up1_ne _ _ e]
      exact h.row.2 k (by have hk : k < S.row.1 + 1 := hk; omega)
theorem stepW_g {r : Rck} {e : Mes} {W : Wt} {B : Int} (gE : gMes e) (g : gW B W) : gW (B + 1) (stepW r e W) := by
  obtain ⟨⟨g1, g2, g3, g4, g5, g6, g7⟩, g8, g9, g10⟩ := g
  have db := dueL_b (W.now + 1) W.ways W.lane g3 g4
  have hl := leftL_len (W.now + 1) W.ways
  refine ⟨⟨?_, ?_, db.1, db.2, g5, ?_, ?_⟩, fun q hq => ?_, fun m hm => ?_, ?_⟩
  · show 0 ≤ W.now + 1; omega
  · show W.now + 1 ≤ B + 1; omega
  · show W.given ≤ W.now + 1; omega
  · show (leftL (W.now + 1) W.ways).length ≤ 12; omega
  · have hq : q ∈ leftL (W.now + 1) W.ways := hq
    unfold leftL at hq
    rw [List.mem_filter] at hq
    have h1 := g8 q hq.1
    have h2 := of_decide_eq_true hq.2
    show W.now + 1 < q.1 ∧ q.1 ≤ W.now + 1 + 12 ∧ -1 ≤ q.2.1 ∧ q.2.1 ≤ 1 ∧ 0 ≤ q.2.2 ∧ q.2.2 ≤ W.given
    omega
  · show 0 ≤ (if m < e.1 then (if e.2.1 m ≤ W.food m then W.food m - e.2.1 m else 0) else W.food m) ∧ (if m < e.1 then (if e.2.1 m ≤ W.food m then W.food m - e.2.1 m else 0) else W.food m) ≤ 99
    have h1 := g9 m hm
    by_cases h2 : m < e.1
    · have h3 := gE.2 m h2
      rw [if_pos h2]
      split <;> omega
    · rw [if_neg h2]; exact h1
  · exact g10.filter _
def goN (r : Rck) (e : Mes) (W : Wt) : Nat → Wt
  | 0 => W
  | n + 1 => stepW r e (goN r e W n)
def hungS (r : Rck) (e : Mes) (W : Wt) : Nat → Int
  | 0 => 0
  | n + 1 => hungS r e W n + hungN e (goN r e W n)
theorem goN_g {r : Rck} {e : Mes} {W : Wt} {B : Int} (gE : gMes e) (g : gW B W) (n : Nat) : gW (B + n) (goN r e W n) := by
  induction n with
  | zero =>
    show gW (B + ((0 : Nat) : Int)) W
    rw [Int.natCast_zero, Int.add_zero]
    exact g
  | succ n ih =>
    have h := stepW_g (r := r) gE ih
    have e : B + ((n + 1 : Nat) : Int) = B + n + 1 := by omega
    rw [e]
    exact h
theorem i32_acc (a b h : Int32) : a + h - b = a - b + h := by
  rw [Int32.sub_eq_add_neg, Int32.sub_eq_add_neg, Int32.add_assoc, Int32.add_comm h, Int32.add_assoc]
theorem Fr.rsm {rs : List Nat} {c z : Nat} {σ σ' : vMem} (F : Fr (KM rs) c z σ σ') (h : ∀ x ∈ rs, x ∈ RSM) : Fr (KM RSM) c z σ σ' := F.sub h
/-- steps that are gone, on what is now -/
theorem M_startsCounting {S : St} {σ : vMem} (h : RM S σ) : f_X3_startsCounting σ 161 = some (si (si σ 161 31 (i32 ((0 : Nat) : Int))) 161 32 (i32 ((0 : Nat) : Int))) := by
  have hm := h.ml
  unfold f_X3_startsCounting
  simp (disch := omega) only [vl_s, bp_s, bd_s, bv_s, i32_nl, i32_n, i32_add, i32_sub, i32_mul, i32_neg, i32_ca, i32_cm, i32_cs, i32_cn, i32_le, i32_lt, i32_eq, i32_cl, Int.toNat_natCast, if_pos, if_neg, ite_true, ite_false, not_true_eq_false, not_false_eq_true, Nat.add_zero, Nat.zero_add, Nat.add_sub_cancel, ck_p, cko_si, cka_si, cko_sl, cka_sl, gi_e, gi_x, gl_e, gl_x, gr_si, gl_si, gi_sl, gr_sl, cko_c hm.k (show 3 ∈ [3] by decide), dr_c hm.r2, dr_c hm.r9, dr_c hm.r10, dr_c hm.r11, dr_c hm.r12, dr_c hm.r13, dr_c hm.r14, dr_c hm.r15, dr_c hm.r16, dr_c hm.r21, dr_c hm.r23, dr_c hm.r24, dr_c hm.r27, dr_c hm.r28, dr_c hm.r30, dr_c hm.r33, dr_c hm.r34, dr_c hm.r36, dr_c hm.r37, dr_c hm.r38, dr_c hm.r41, dr_c hm.r43, dr_c hm.r44, dr_c hm.r45, dr_c hm.r46, dr_c hm.r47, dr_c hm.r50, dr_c hm.r51, dr_c hm.r52, cka_i hm.k162 hm.l162, cka_i hm.k163 hm.l163, cka_i hm.k164 hm.l164, cka_i hm.k165 hm.l165, cka_i hm.k166 hm.l166, cka_i hm.k167 hm.l167, cka_i hm.k168 hm.l168, cka_i hm.k169 hm.l169, cka_i hm.k170 hm.l170, cka_i hm.k171 hm.l171, cka_i hm.k172 hm.l172, cka_i hm.k173 hm.l173, cka_i hm.k174 hm.l174, cka_i hm.k175 hm.l175, cka_i hm.k176 hm.l176, cka_i hm.k177 hm.l177, cka_i hm.k178 hm.l178, cka_i hm.k179 hm.l179, cka_i hm.k180 hm.l180, cka_i hm.k181 hm.l181, cka_i hm.k182 hm.l182, cka_i hm.k183 hm.l183, cka_i hm.k184 hm.l184, cka_i hm.k185 hm.l185, cka_i hm.k186 hm.l186, cka_i hm.k187 hm.l187, cka_i hm.k188 hm.l188, cka_i hm.k189 hm.l189, cka_i hm.k190 hm.l190]
def aSteps (S : St) (n : Int) : Int := if 0 ≤ n ∧ n ≤ 60 then (goN S.rck S.mes S.now n.toNat).lane else -1
def nSteps (S : St) (n : Int) : St := if 0 ≤ n ∧ n ≤ 60 then rowA (rowA (row0 ((S.wNow (goN S.rck S.mes S.now n.toNat)).wUnd (pushU S.und S.now))) (Int32.toInt64 ((goN S.rck S.mes S.now n.toNat).hits - S.now.hits))) (Int32.toInt64 (i32 (hungS S.rck S.mes S.now n.toNat))) else S
theorem M_steps29 {S : St} {σ : vMem} {B : Int} {n : Nat} {K : vMem → Option (Int32 × vMem)} {Q : Int32 × vMem → Prop} (h : RM S σ) (g : gSt B S) (hB : B ≤ 800000) (hn : n ≤ 60) (h31 : gi σ 161 31 = i32 ((0 : Nat) : Int)) (h32 : gi σ 161 32 = i32 ((0 : Nat) : Int)) (hK : ∀ σ', RM (S.wNow (goN S.rck S.mes S.now n)) σ' → Fr (KM [0, 4]) 0 0 σ σ' → gi σ' 161 31 = (goN S.rck S.mes S.now n).hits - S.now.hits → gi σ' 161 32 = i32 (hungS S.rck S.mes S.now n) → ok (K σ') Q) : ok (f_X3_steps_29 161 (i32 n) K FU σ (i32 ((0 : Nat) : Int))) Q := by
  refine loop2 (F := f_X3_steps_29 161 (i32 n) K) n (fun k σ1 v => v = i32 k ∧ RM (S.wNow (goN S.rck S.mes S.now k)) σ1 ∧ Fr (KM [0, 4]) 0 0 σ σ1 ∧ gi σ1 161 31 = (goN S.rck S.mes S.now k).hits - S.now.hits ∧ gi σ1 161 32 = i32 (hungS S.rck S.mes S.now k)) ?_ FU 0 σ _ (by omega) ⟨rfl, h, Fr.rf, ?_, h32⟩ (by unfold FU; omega)
  · rintro m k σ1 v hk2 ⟨rfl, h1, F1, a1, a2⟩ IH
    have hm := h1.ml
    rw [f_X3_steps_29.eq_2]
    by_cases hc : k < n
    · simp (disch := omega) only [vl_s, bp_s, bd_s, bv_s, i32_nl, i32_n, i32_add, i32_sub, i32_mul, i32_neg, i32_ca, i32_cm, i32_cs, i32_cn, i32_le, i32_lt, i32_eq, i32_cl, Int.toNat_natCast, if_pos, if_neg, ite_true, ite_false, not_true_eq_false, not_false_eq_true, Nat.add_zero, Nat.zero_add, Nat.add_sub_cancel, ck_p, cko_si, cka_si, cko_sl, cka_sl, gi_e, gi_x, gl_e, gl_x, gr_si, gl_si, gi_sl, gr_sl, cko_c hm.k (show 3 ∈ [3] by decide), dr_c hm.r2, dr_c hm.r9, dr_c hm.r10, dr_c hm.r11, dr_c hm.r12, dr_c hm.r13, dr_c hm.r14, dr_c hm.r15, dr_c hm.r16, dr_c hm.r21, dr_c hm.r23, dr_c hm.r24, dr_c hm.r27, dr_c hm.r28, dr_c hm.r30, dr_c hm.r33, dr_c hm.r34, dr_c hm.r36, dr_c hm.r37, dr_c hm.r38, dr_c hm.r41, dr_c hm.r43, dr_c hm.r44, dr_c hm.r45, dr_c hm.r46, dr_c hm.r47, dr_c hm.r50, dr_c hm.r51, dr_c hm.r52, cka_i hm.k162 hm.l162, cka_i hm.k163 hm.l163, cka_i hm.k164 hm.l164, cka_i hm.k165 hm.l165, cka_i hm.k166 hm.l166, cka_i hm.k167 hm.l167, cka_i hm.k168 hm.l168, cka_i hm.k169 hm.l169, cka_i hm.k170 hm.l170, cka_i hm.k171 hm.l171, cka_i hm.k172 hm.l172, cka_i hm.k173 hm.l173, cka_i hm.k174 hm.l174, cka_i hm.k175 hm.l175, cka_i hm.k176 hm.l176, cka_i hm.k177 hm.l177, cka_i hm.k178 hm.l178, cka_i hm.k179 hm.l179, cka_i hm.k180 hm.l180, cka_i hm.k181 hm.l181, cka_i hm.k182 hm.l182, cka_i hm.k183 hm.l183, cka_i hm.k184 hm.l184, cka_i hm.k185 hm.l185, cka_i hm.k186 hm.l186, cka_i hm.k187 hm.l187, cka_i hm.k188 hm.l188, cka_i hm.k189 hm.l189, cka_i hm.k190 hm.l190]
      refine ok_bv (X3_stepGoes h1.lay h1.rck g.rck h1.mes g.mes (Or.inl rfl) h1.now (goN_g g.mes g.now k) (by omega)) ?_
      rintro σ2 ⟨b1, b2, b3, F2⟩
      have F2' : Fr (KM [0, 4]) 0 0 σ1 σ2 := F2.mono (Krow_M (Or.inl rfl))
      refine IH hc _ _ ⟨rfl, h1.uNow F2' b1, F1.tr0 F2', ?_, ?_⟩
      · rw [b2, a1]
        exact (i32_acc _ _ _).symm
      · rw [b3, a2, i32_add]
        rfl
    · have : k = n := by omega
      subst this
      simp (disch := omega) only [vl_s, bp_s, bd_s, bv_s, i32_nl, i32_n, i32_add, i32_sub, i32_mul, i32_neg, i32_ca, i32_cm, i32_cs, i32_cn, i32_le, i32_lt, i32_eq, i32_cl, Int.toNat_natCast, if_pos, if_neg, ite_true, ite_false, not_true_eq_false, not_false_eq_true, Nat.add_zero, Nat.zero_add, Nat.add_sub_cancel, ck_p]
      exact hK σ1 h1 F1 a1 a2
  · rw [h31]
    show _ = S.now.hits - S.now.hits
    rw [Int32.sub_self]
    rfl
theorem M_steps {S : St} {σ : vMem} {B : Int} {n : Int} (h : RM S σ) (g : gSt B S) (hB : B ≤ 800000) (h1 : -2147483648 ≤ n) (h2 : n < 2147483648) : ok (f_X3_steps σ 161 (i32 n)) (fun r => r.1 = i32 (aSteps S n) ∧ RM (nSteps S n) r.2 ∧ FM σ r.2) := by
  have hm := h.ml
  unfold f_X3_steps aSteps nSteps
  by_cases hc : 0 ≤ n ∧ n ≤ 60
  · obtain ⟨k, rfl⟩ : ∃ k : Nat, n = k := ⟨n.toNat, by omega⟩
    rw [if_pos hc, if_pos hc]
    rw [Int.toNat_natCast]
    simp (disch := omega) only [vl_s, bp_s, bd_s, bv_s, i32_nl, i32_n, i32_add, i32_sub, i32_mul, i32_neg, i32_ca, i32_cm, i32_cs, i32_cn, i32_le, i32_lt, i32_eq, i32_cl, Int.toNat_natCast, if_pos, if_neg, ite_true, ite_false, not_true_eq_false, not_false_eq_true, Nat.add_zero, Nat.zero_add, Nat.add_sub_cancel, ck_p, cko_si, cka_si, cko_sl, cka_sl, gi_e, gi_x, gl_e, gl_x, gr_si, gl_si, gi_sl, gr_sl, cko_c hm.k (show 3 ∈ [3] by decide), dr_c hm.r2, dr_c hm.r9, dr_c hm.r10, dr_c hm.r11, dr_c hm.r12, dr_c hm.r13, dr_c hm.r14, dr_c hm.r15, dr_c hm.r16, dr_c hm.r21, dr_c hm.r23, dr_c hm.r24, dr_c hm.r27, dr_c hm.r28, dr_c hm.r30, dr_c hm.r33, dr_c hm.r34, dr_c hm.r36, dr_c hm.r37, dr_c hm.r38, dr_c hm.r41, dr_c hm.r43, dr_c hm.r44, dr_c hm.r45, dr_c hm.r46, dr_c hm.r47, dr_c hm.r50, dr_c hm.r51, dr_c hm.r52, cka_i hm.k162 hm.l162, cka_i hm.k163 hm.l163, cka_i hm.k164 hm.l164, cka_i hm.k165 hm.l165, cka_i hm.k166 hm.l166, cka_i hm.k167 hm.l167, cka_i hm.k168 hm.l168, cka_i hm.k169 hm.l169, cka_i hm.k170 hm.l170, cka_i hm.k171 hm.l171, cka_i hm.k172 hm.l172, cka_i hm.k173 hm.l173, cka_i hm.k174 hm.l174, cka_i hm.k175 hm.l175, cka_i hm.k176 hm.l176, cka_i hm.k177 hm.l177, cka_i hm.k178 hm.l178, cka_i hm.k179 hm.l179, cka_i hm.k180 hm.l180, cka_i hm.k181 hm.l181, cka_i hm.k182 hm.l182, cka_i hm.k183 hm.l183, cka_i hm.k184 hm.l184, cka_i hm.k185 hm.l185, cka_i hm.k186 hm.l186, cka_i hm.k187 hm.l187, cka_i hm.k188 hm.l188, cka_i hm.k189 hm.l189, cka_i hm.k190 hm.l190, X3_inI, X1_inI, i32_64, b01_i0, b01_i1, i64_m1, i64_0, i64_1, i64_2, i64_3, i64_8, i64_9, i64_10, i64_12, i64_15, i64_18, i64_20, i64_24, i64_30, i64_39, i64_48, i64_57, i64_60, i64_99, i64_100, i64_999, i64_99999]
    have h0 := M_thrown h (i32 ((0 : Nat) : Int))
    refine ok_bv (M_putsBy h0 g) ?_
    rintro σ1 ⟨h1, w1, F1⟩
    have hm1 := h1.ml
    simp (disch := omega) only [vl_s, bp_s, bd_s, bv_s, i32_nl, i32_n, i32_add, i32_sub, i32_mul, i32_neg, i32_ca, i32_cm, i32_cs, i32_cn, i32_le, i32_lt, i32_eq, i32_cl, Int.toNat_natCast, if_pos, if_neg, ite_true, ite_false, not_true_eq_false, not_false_eq_true, Nat.add_zero, Nat.zero_add, Nat.add_sub_cancel, ck_p, cko_si, cka_si, cko_sl, cka_sl, gi_e, gi_x, gl_e, gl_x, gr_si, gl_si, gi_sl, gr_sl, cko_c hm1.k (show 3 ∈ [3] by decide), dr_c hm1.r2, dr_c hm1.r9, dr_c hm1.r10, dr_c hm1.r11, dr_c hm1.r12, dr_c hm1.r13, dr_c hm1.r14, dr_c hm1.r15, dr_c hm1.r16, dr_c hm1.r21, dr_c hm1.r23, dr_c hm1.r24, dr_c hm1.r27, dr_c hm1.r28, dr_c hm1.r30, dr_c hm1.r33, dr_c hm1.r34, dr_c hm1.r36, dr_c hm1.r37, dr_c hm1.r38, dr_c hm1.r41, dr_c hm1.r43, dr_c hm1.r44, dr_c hm1.r45, dr_c hm1.r46, dr_c hm1.r47, dr_c hm1.r50, dr_c hm1.r51, dr_c hm1.r52, cka_i hm1.k162 hm1.l162, cka_i hm1.k163 hm1.l163, cka_i hm1.k164 hm1.l164, cka_i hm1.k165 hm1.l165, cka_i hm1.k166 hm1.l166, cka_i hm1.k167 hm1.l167, cka_i hm1.k168 hm1.l168, cka_i hm1.k169 hm1.l169, cka_i hm1.k170 hm1.l170, cka_i hm1.k171 hm1.l171, cka_i hm1.k172 hm1.l172, cka_i hm1.k173 hm1.l173, cka_i hm1.k174 hm1.l174, cka_i hm1.k175 hm1.l175, cka_i hm1.k176 hm1.l176, cka_i hm1.k177 hm1.l177, cka_i hm1.k178 hm1.l178, cka_i hm1.k179 hm1.l179, cka_i hm1.k180 hm1.l180, cka_i hm1.k181 hm1.l181, cka_i hm1.k182 hm1.l182, cka_i hm1.k183 hm1.l183, cka_i hm1.k184 hm1.l184, cka_i hm1.k185 hm1.l185, cka_i hm1.k186 hm1.l186, cka_i hm1.k187 hm1.l187, cka_i hm1.k188 hm1.l188, cka_i hm1.k189 hm1.l189, cka_i hm1.k190 hm1.l190, M_startsCounting h1]
    have F2 : Fr (KM [0]) 0 0 σ1 (si (si σ1 161 31 (i32 ((0 : Nat) : Int))) 161 32 (i32 ((0 : Nat) : Int))) := (Fr.rf.wm 0 rfl (by decide)).wm 0 rfl (by decide)
    refine M_steps29 (h1.u0 F2) g hB (by omega) (by simp (disch := omega) only [cko_si, cka_si, cko_sl, cka_sl, gi_e, gi_x, gl_e, gl_x, gr_si, gl_si, gi_sl, gr_sl]) (by simp (disch := omega) only [cko_si, cka_si, cko_sl, cka_sl, gi_e, gi_x, gl_e, gl_x, gr_si, gl_si, gi_sl, gr_sl]) (fun σ3 h3 F3 a1 a2 => ?_)
    have hm3 := h3.ml
    have h4 := M_row0 h3
    simp (disch := omega) only [vl_s, bp_s, bd_s, bv_s, i32_nl, i32_n, i32_add, i32_sub, i32_mul, i32_neg, i32_ca, i32_cm, i32_cs, i32_cn, i32_le, i32_lt, i32_eq, i32_cl, Int.toNat_natCast, if_pos, if_neg, ite_true, ite_false, not_true_eq_false, not_false_eq_true, Nat.add_zero, Nat.zero_add, Nat.add_sub_cancel, ck_p, cko_si, cka_si, cko_sl, cka_sl, gi_e, gi_x, gl_e, gl_x, gr_si, gl_si, gi_sl, gr_sl, cko_c hm3.k (show 3 ∈ [3] by decide), dr_c hm3.r2, dr_c hm3.r9, dr_c hm3.r10, dr_c hm3.r11, dr_c hm3.r12, dr_c hm3.r13, dr_c hm3.r14, dr_c hm3.r15, dr_c hm3.r16, dr_c hm3.r21, dr_c hm3.r23, dr_c hm3.r24, dr_c hm3.r27, dr_c hm3.r28, dr_c hm3.r30, dr_c hm3.r33, dr_c hm3.r34, dr_c hm3.r36, dr_c hm3.r37, dr_c hm3.r38, dr_c hm3.r41, dr_c hm3.r43, dr_c hm3.r44, dr_c hm3.r45, dr_c hm3.r46, dr_c hm3.r47, dr_c hm3.r50, dr_c hm3.r51, dr_c hm3.r52, cka_i hm3.k162 hm3.l162, cka_i hm3.k163 hm3.l163, cka_i hm3.k164 hm3.l164, cka_i hm3.k165 hm3.l165, cka_i hm3.k166 hm3.l166, cka_i hm3.k167 hm3.l167, cka_i hm3.k168 hm3.l168, cka_i hm3.k169 hm3.l169, cka_i hm3.k170 hm3.l170, cka_i hm3.k171 hm3.l171, cka_i hm3.k172 hm3.l172, cka_i hm3.k173 hm3.l173, cka_i hm3.k174 hm3.l174, cka_i hm3.k175 hm3.l175, cka_i hm3.k176 hm3.l176, cka_i hm3.k177 hm3.l177, cka_i hm3.k178 hm3.l178, cka_i hm3.k179 hm3.l179, cka_i hm3.k180 hm3.l180, cka_i hm3.k181 hm3.l181, cka_i hm3.k182 hm3.l182, cka_i hm3.k183 hm3.l183, cka_i hm3.k184 hm3.l184, cka_i hm3.k185 hm3.l185, cka_i hm3.k186 hm3.l186, cka_i hm3.k187 hm3.l187, cka_i hm3.k188 hm3.l188, cka_i hm3.k189 hm3.l189, cka_i hm3.k190 hm3.l190, a1, a2]
    refine ok_bv (M_enters h4 (by show 0 < 40; omega) _) ?_
    rintro σ5 ⟨h5, F5⟩
    have hm5 := h5.ml
    have e32 : gi σ5 161 32 = i32 (hungS S.rck S.mes S.now k) := by
      rw [F5.gM (t := 0) (by decide) 161 32 (by have := h4.mn; omega) rfl, gi_x (by omega), a2]
    simp (disch := omega) only [vl_s, bp_s, bd_s, bv_s, i32_nl, i32_n, i32_add, i32_sub, i32_mul, i32_neg, i32_ca, i32_cm, i32_cs, i32_cn, i32_le, i32_lt, i32_eq, i32_cl, Int.toNat_natCast, if_pos, if_neg, ite_true, ite_false, not_true_eq_false, not_false_eq_true, Nat.add_zero, Nat.zero_add, Nat.add_sub_cancel, ck_p, cko_si, cka_si, cko_sl, cka_sl, gi_e, gi_x, gl_e, gl_x, gr_si, gl_si, gi_sl, gr_sl, cko_c hm5.k (show 3 ∈ [3] by decide), dr_c hm5.r2, dr_c hm5.r9, dr_c hm5.r10, dr_c hm5.r11, dr_c hm5.r12, dr_c hm5.r13, dr_c hm5.r14, dr_c hm5.r15, dr_c hm5.r16, dr_c hm5.r21, dr_c hm5.r23, dr_c hm5.r24, dr_c hm5.r27, dr_c hm5.r28, dr_c hm5.r30, dr_c hm5.r33, dr_c hm5.r34, dr_c hm5.r36, dr_c hm5.r37, dr_c hm5.r38, dr_c hm5.r41, dr_c hm5.r43, dr_c hm5.r44, dr_c hm5.r45, dr_c hm5.r46, dr_c hm5.r47, dr_c hm5.r50, dr_c hm5.r51, dr_c hm5.r52, cka_i hm5.k162 hm5.l162, cka_i hm5.k163 hm5.l163, cka_i hm5.k164 hm5.l164, cka_i hm5.k165 hm5.l165, cka_i hm5.k166 hm5.l166, cka_i hm5.k167 hm5.l167, cka_i hm5.k168 hm5.l168, cka_i hm5.k169 hm5.l169, cka_i hm5.k170 hm5.l170, cka_i hm5.k171 hm5.l171, cka_i hm5.k172 hm5.l172, cka_i hm5.k173 hm5.l173, cka_i hm5.k174 hm5.l174, cka_i hm5.k175 hm5.l175, cka_i hm5.k176 hm5.l176, cka_i hm5.k177 hm5.l177, cka_i hm5.k178 hm5.l178, cka_i hm5.k179 hm5.l179, cka_i hm5.k180 hm5.l180, cka_i hm5.k181 hm5.l181, cka_i hm5.k182 hm5.l182, cka_i hm5.k183 hm5.l183, cka_i hm5.k184 hm5.l184, cka_i hm5.k185 hm5.l185, cka_i hm5.k186 hm5.l186, cka_i hm5.k187 hm5.l187, cka_i hm5.k188 hm5.l188, cka_i hm5.k189 hm5.l189, cka_i hm5.k190 hm5.l190, e32]
    refine ok_bv (M_enters h5 (by show 0 + 1 < 40; omega) _) ?_
    rintro σ6 ⟨h6, F6⟩
    have hm6 := h6.ml
    have hx : gi σ6 168 1 = i32 (goN S.rck S.mes S.now k).lane := h6.now.2.1
    simp (disch := omega) only [vl_s, bp_s, bd_s, bv_s, i32_nl, i32_n, i32_add, i32_sub, i32_mul, i32_neg, i32_ca, i32_cm, i32_cs, i32_cn, i32_le, i32_lt, i32_eq, i32_cl, Int.toNat_natCast, if_pos, if_neg, ite_true, ite_false, not_true_eq_false, not_false_eq_true, Nat.add_zero, Nat.zero_add, Nat.add_sub_cancel, ck_p, cko_si, cka_si, cko_sl, cka_sl, gi_e, gi_x, gl_e, gl_x, gr_si, gl_si, gi_sl, gr_sl, cko_c hm6.k (show 3 ∈ [3] by decide), dr_c hm6.r2, dr_c hm6.r9, dr_c hm6.r10, dr_c hm6.r11, dr_c hm6.r12, dr_c hm6.r13, dr_c hm6.r14, dr_c hm6.r15, dr_c hm6.r16, dr_c hm6.r21, dr_c hm6.r23, dr_c hm6.r24, dr_c hm6.r27, dr_c hm6.r28, dr_c hm6.r30, dr_c hm6.r33, dr_c hm6.r34, dr_c hm6.r36, dr_c hm6.r37, dr_c hm6.r38, dr_c hm6.r41, dr_c hm6.r43, dr_c hm6.r44, dr_c hm6.r45, dr_c hm6.r46, dr_c hm6.r47, dr_c hm6.r50, dr_c hm6.r51, dr_c hm6.r52, cka_i hm6.k162 hm6.l162, cka_i hm6.k163 hm6.l163, cka_i hm6.k164 hm6.l164, cka_i hm6.k165 hm6.l165, cka_i hm6.k166 hm6.l166, cka_i hm6.k167 hm6.l167, cka_i hm6.k168 hm6.l168, cka_i hm6.k169 hm6.l169, cka_i hm6.k170 hm6.l170, cka_i hm6.k171 hm6.l171, cka_i hm6.k172 hm6.l172, cka_i hm6.k173 hm6.l173, cka_i hm6.k174 hm6.l174, cka_i hm6.k175 hm6.l175, cka_i hm6.k176 hm6.l176, cka_i hm6.k177 hm6.l177, cka_i hm6.k178 hm6.l178, cka_i hm6.k179 hm6.l179, cka_i hm6.k180 hm6.l180, cka_i hm6.k181 hm6.l181, cka_i hm6.k182 hm6.l182, cka_i hm6.k183 hm6.l183, cka_i hm6.k184 hm6.l184, cka_i hm6.k185 hm6.l185, cka_i hm6.k186 hm6.l186, cka_i hm6.k187 hm6.l187, cka_i hm6.k188 hm6.l188, cka_i hm6.k189 hm6.l189, cka_i hm6.k190 hm6.l190, hx]
    have F26 : Fr (KM [0, 4, 7]) 0 0 σ1 σ6 := ((((F2.sub (by decide)).tr0 (F3.sub (by decide))).tr0 (F_row0.sub (by decide))).tr0 (F5.sub (by decide))).tr0 (F6.sub (by decide))
    have w6 : WM σ6 176 (57 * S.und.length) S.now := w1.frt F26 (by have := h1.mn; omega) 5 (by decide) (fun _ => rfl)
    refine ok_bd (M_adds h6 g.und g.now w6) ?_
    rintro x σ7 ⟨rfl, h7, F7⟩
    simp only [st_Shp_Shp, st_Shp_Rck, st_Shp_Mes, st_Shp_Now, st_Shp_Und, st_Shp_Txt, st_Shp_Rul, st_Shp_Sts, st_Shp_Pgs, st_Shp_Row, st_Rck_Shp, st_Rck_Rck, st_Rck_Mes, st_Rck_Now, st_Rck_Und, st_Rck_Txt, st_Rck_Rul, st_Rck_Sts, st_Rck_Pgs, st_Rck_Row, st_Mes_Shp, st_Mes_Rck, st_Mes_Mes, st_Mes_Now, st_Mes_Und, st_Mes_Txt, st_Mes_Rul, st_Mes_Sts, st_Mes_Pgs, st_Mes_Row, st_Now_Shp, st_Now_Rck, st_Now_Mes, st_Now_Now, st_Now_Und, st_Now_Txt, st_Now_Rul, st_Now_Sts, st_Now_Pgs, st_Now_Row, st_Und_Shp, st_Und_Rck, st_Und_Mes, st_Und_Now, st_Und_Und, st_Und_Txt, st_Und_Rul, st_Und_Sts, st_Und_Pgs, st_Und_Row, st_Txt_Shp, st_Txt_Rck, st_Txt_Mes, st_Txt_Now, st_Txt_Und, st_Txt_Txt, st_Txt_Rul, st_Txt_Sts, st_Txt_Pgs, st_Txt_Row, st_Rul_Shp, st_Rul_Rck, st_Rul_Mes, st_Rul_Now, st_Rul_Und, st_Rul_Txt, st_Rul_Rul, st_Rul_Sts, st_Rul_Pgs, st_Rul_Row, st_Sts_Shp, st_Sts_Rck, st_Sts_Mes, st_Sts_Now, st_Sts_Und, st_Sts_Txt, st_Sts_Rul, st_Sts_Sts, st_Sts_Pgs, st_Sts_Row, st_Pgs_Shp, st_Pgs_Rck, st_Pgs_Mes, st_Pgs_Now, st_Pgs_Und, st_Pgs_Txt, st_Pgs_Rul, st_Pgs_Sts, st_Pgs_Pgs, st_Pgs_Row, st_Row_Shp, st_Row_Rck, st_Row_Mes, st_Row_Now, st_Row_Und, st_Row_Txt, st_Row_Rul, st_Row_Sts, st_Row_Pgs, st_Row_Row, st_r0_Shp, st_rA_Shp, st_r0_Rck, st_rA_Rck, st_r0_Mes, st_rA_Mes, st_r0_Now, st_rA_Now, st_r0_Und, st_rA_Und, st_r0_Txt, st_rA_Txt, st_r0_Rul, st_rA_Rul, st_r0_Sts, st_rA_Sts, st_r0_Pgs, st_rA_Pgs, st_r0_Row, st_rA_Row, sw_r0_Shp, sw_rA_Shp, sw_Shp_Shp, sw_r0_Rck, sw_rA_Rck, sw_Rck_Rck, sw_Rck_Shp, sw_r0_Mes, sw_rA_Mes, sw_Mes_Mes, sw_Mes_Shp, sw_Mes_Rck, sw_r0_Now, sw_rA_Now, sw_Now_Now, sw_Now_Shp, sw_Now_Rck, sw_Now_Mes, sw_r0_Und, sw_rA_Und, sw_Und_Und, sw_Und_Shp, sw_Und_Rck, sw_Und_Mes, sw_Und_Now, sw_r0_Txt, sw_rA_Txt, sw_Txt_Txt, sw_Txt_Shp, sw_Txt_Rck, sw_Txt_Mes, sw_Txt_Now, sw_Txt_Und, sw_r0_Rul, sw_rA_Rul, sw_Rul_Rul, sw_Rul_Shp, sw_Rul_Rck, sw_Rul_Mes, sw_Rul_Now, sw_Rul_Und, sw_Rul_Txt, sw_r0_Sts, sw_rA_Sts, sw_Sts_Sts, sw_Sts_Shp, sw_Sts_Rck, sw_Sts_Mes, sw_Sts_Now, sw_Sts_Und, sw_Sts_Txt, sw_Sts_Rul, sw_r0_Pgs, sw_rA_Pgs, sw_Pgs_Pgs, sw_Pgs_Shp, sw_Pgs_Rck, sw_Pgs_Mes, sw_Pgs_Now, sw_Pgs_Und, sw_Pgs_Txt, sw_Pgs_Rul, sw_Pgs_Sts] at h7
    exact ok_some ⟨rfl, h7, (((FM_thrown).tr0 (F1.rsm (by decide))).tr0 (F26.rsm (by decide))).tr0 (F7.rsm (by decide))⟩
  · rw [if_neg hc, if_neg hc]
    simp (disch := omega) only [vl_s, bp_s, bd_s, bv_s, i32_nl, i32_n, i32_add, i32_sub, i32_mul, i32_neg, i32_ca, i32_cm, i32_cs, i32_cn, i32_le, i32_lt, i32_eq, i32_cl, Int.toNat_natCast, if_pos, if_neg, ite_true, ite_false, not_true_eq_false, not_false_eq_true, Nat.add_zero, Nat.zero_add, Nat.add_sub_cancel, ck_p, cko_si, cka_si, cko_sl, cka_sl, gi_e, gi_x, gl_e, gl_x, gr_si, gl_si, gi_sl, gr_sl, cko_c hm.k (show 3 ∈ [3] by decide), dr_c hm.r2, dr_c hm.r9, dr_c hm.r10, dr_c hm.r11, dr_c hm.r12, dr_c hm.r13, dr_c hm.r14, dr_c hm.r15, dr_c hm.r16, dr_c hm.r21, dr_c hm.r23, dr_c hm.r24, dr_c hm.r27, dr_c hm.r28, dr_c hm.r30, dr_c hm.r33, dr_c hm.r34, dr_c hm.r36, dr_c hm.r37, dr_c hm.r38, dr_c hm.r41, dr_c hm.r43, dr_c hm.r44, dr_c hm.r45, dr_c hm.r46, dr_c hm.r47, dr_c hm.r50, dr_c hm.r51, dr_c hm.r52, cka_i hm.k162 hm.l162, cka_i hm.k163 hm.l163, cka_i hm.k164 hm.l164, cka_i hm.k165 hm.l165, cka_i hm.k166 hm.l166, cka_i hm.k167 hm.l167, cka_i hm.k168 hm.l168, cka_i hm.k169 hm.l169, cka_i hm.k170 hm.l170, cka_i hm.k171 hm.l171, cka_i hm.k172 hm.l172, cka_i hm.k173 hm.l173, cka_i hm.k174 hm.l174, cka_i hm.k175 hm.l175, cka_i hm.k176 hm.l176, cka_i hm.k177 hm.l177, cka_i hm.k178 hm.l178, cka_i hm.k179 hm.l179, cka_i hm.k180 hm.l180, cka_i hm.k181 hm.l181, cka_i hm.k182 hm.l182, cka_i hm.k183 hm.l183, cka_i hm.k184 hm.l184, cka_i hm.k185 hm.l185, cka_i hm.k186 hm.l186, cka_i hm.k187 hm.l187, cka_i hm.k188 hm.l188, cka_i hm.k189 hm.l189, cka_i hm.k190 hm.l190, X3_inI, X1_inI, i32_64, b01_i0, b01_i1, i64_m1, i64_0, i64_1, i64_2, i64_3, i64_8, i64_9, i64_10, i64_12, i64_15, i64_18, i64_20, i64_24, i64_30, i64_39, i64_48, i64_57, i64_60, i64_99, i64_100, i64_999, i64_99999]
    exact ok_some ⟨rfl, M_thrown h _, FM_thrown⟩
