/-! THE MODEL'S ACTS: pass, undo, keep, again; where she will be -/
set_option maxRecDepth 100000
/-- what passing answers -/
def passA (M : Nat) (W : Wt) (m n aft : Int) : Int := if ¬ ((0 ≤ m ∧ m < M) ∧ (0 ≤ aft ∧ aft ≤ 1) ∧ (0 ≤ m + 2 * aft - 1 ∧ m + 2 * aft - 1 < M) ∧ 1 ≤ n ∧ n ≤ 99) then -1 else if W.food m.toNat < n then -2 else if W.food (m + 2 * aft - 1).toNat + n > 99 then -3 else W.food m.toNat - n
def passW (W : Wt) (m n aft : Int) : Wt := foodW (foodW W m.toNat (W.food m.toNat - n)) (m + 2 * aft - 1).toNat (W.food (m + 2 * aft - 1).toNat + n)
theorem passA_ok {M : Nat} {W : Wt} {m n aft B : Int} (g : gW B W) (hM : M ≤ 8) (h : 0 ≤ passA M W m n aft) : ((0 ≤ m ∧ m < M) ∧ (0 ≤ aft ∧ aft ≤ 1) ∧ (0 ≤ m + 2 * aft - 1 ∧ m + 2 * aft - 1 < M) ∧ 1 ≤ n ∧ n ≤ 99) ∧ n ≤ W.food m.toNat ∧ W.food (m + 2 * aft - 1).toNat + n ≤ 99 := by
  unfold passA at h
  by_cases c1 : (0 ≤ m ∧ m < M) ∧ (0 ≤ aft ∧ aft ≤ 1) ∧ (0 ≤ m + 2 * aft - 1 ∧ m + 2 * aft - 1 < M) ∧ 1 ≤ n ∧ n ≤ 99
  · rw [if_neg (fun q => q c1)] at h
    by_cases c2 : W.food m.toNat < n
    · rw [if_pos c2] at h; omega
    · rw [if_neg c2] at h
      by_cases c3 : W.food (m + 2 * aft - 1).toNat + n > 99
      · rw [if_pos c3] at h; omega
      · exact ⟨c1, by omega, by omega⟩
  · rw [if_pos c1] at h; omega
theorem passW_g {M : Nat} {W : Wt} {m n aft B : Int} (g : gW B W) (hM : M ≤ 8) (h : 0 ≤ passA M W m n aft) : gW B (passW W m n aft) := by
  obtain ⟨c1, c2, c3⟩ := passA_ok g hM h
  have f1 := g.2.2.1 m.toNat (by omega)
  have f2 := g.2.2.1 (m + 2 * aft - 1).toNat (by omega)
  exact foodW_g (foodW_g g (by omega) (by omega)) (by omega) (by omega)
theorem passA_b {M : Nat} {W : Wt} {m n aft B : Int} (g : gW B W) (hM : M ≤ 8) : -3 ≤ passA M W m n aft ∧ passA M W m n aft ≤ 99 := by
  by_cases h : 0 ≤ passA M W m n aft
  · obtain ⟨c1, c2, c3⟩ := passA_ok g hM h
    have f1 := g.2.2.1 m.toNat (by omega)
    unfold passA at h ⊢
    rw [if_neg (fun q => q c1), if_neg (by omega), if_neg (by omega)] at h ⊢
    omega
  · unfold passA at h ⊢
    revert h
    repeat' split
    all_goals omega
theorem M_passes {S : St} {σ : vMem} {B m n aft : Int} (h : RM S σ) (g : gSt B S) (h1 : -2147483648 ≤ m) (h2 : m < 2147483648) (h3 : -2147483648 ≤ n) (h4 : n < 2147483648) (h5 : -2147483648 ≤ aft) (h6 : aft < 2147483648) : ok (f_X3_passes σ 161 (i32 m) (i32 n) (i32 aft)) (fun r => r.1 = i32 (passA S.mes.1 S.now m n aft) ∧ RM (S.wNow (if 0 ≤ passA S.mes.1 S.now m n aft then passW S.now m n aft else S.now)) r.2 ∧ Fr (KM [0, 4]) 0 0 σ r.2) := by
  have hm := h.ml
  have e7 := h.mes.1
  have g8 := g.mes.1
  generalize hQ : (fun r : Int32 × vMem => r.1 = i32 (passA S.mes.1 S.now m n aft) ∧ RM (S.wNow (if 0 ≤ passA S.mes.1 S.now m n aft then passW S.now m n aft else S.now)) r.2 ∧ Fr (KM [0, 4]) 0 0 σ r.2) = Q
  have same : ∀ {x : Int}, x < 0 → passA S.mes.1 S.now m n aft = x → ok (some (i32 x, σ)) Q := by
    intro x hx e
    rw [← hQ, e, if_neg (by omega)]
    exact ok_some ⟨rfl, h, Fr.rf⟩
  unfold f_X3_passes
  by_cases c1 : (0 ≤ m ∧ m < S.mes.1) ∧ (0 ≤ aft ∧ aft ≤ 1) ∧ (0 ≤ m + 2 * aft - 1 ∧ m + 2 * aft - 1 < S.mes.1) ∧ 1 ≤ n ∧ n ≤ 99
  · obtain ⟨k, rfl⟩ : ∃ k : Nat, m = k := ⟨m.toNat, by omega⟩
    obtain ⟨j, hj⟩ : ∃ j : Nat, (k : Int) + 2 * aft - 1 = j := ⟨((k : Int) + 2 * aft - 1).toNat, by omega⟩
    have f := (h.now.2.2.2.2.2.2 k (by omega)).1
    have f2 := (h.now.2.2.2.2.2.2 j (by omega)).1
    have gf := g.now.2.2.1 k (by omega)
    have gf2 := g.now.2.2.1 j (by omega)
    have hA : passA S.mes.1 S.now k n aft = if S.now.food k < n then -2 else if S.now.food j + n > 99 then -3 else S.now.food k - n := by
      unfold passA
      rw [if_neg (fun q => q c1), hj, Int.toNat_natCast, Int.toNat_natCast]
    have hkj : k ≠ j := by omega
    by_cases c2 : S.now.food k < n
    · rw [if_pos c2] at hA
      have ha : aft = 0 ∨ aft = 1 := by omega
      rcases ha with rfl | rfl
      · have hj' : ((k : Int) - ((1 : Nat) : Int)) = j := by omega
        (try simp (disch := omega) only [vl_s, bp_s, bd_s, bv_s, i32_nl, i32_n, i32_add, i32_sub, i32_mul, i32_neg, i32_ca, i32_cm, i32_cs, i32_cn, i32_le, i32_lt, i32_eq, i32_cl, Int.toNat_natCast, if_pos, if_neg, ite_true, ite_false, not_true_eq_false, not_false_eq_true, Nat.add_zero, Nat.zero_add, Nat.add_sub_cancel, ck_p, cko_si, cka_si, cko_sl, cka_sl, gi_e, gi_x, gl_e, gl_x, gr_si, gl_si, gi_sl, gr_sl, X3_inI, X1_inI, i32_64, b01_i0, b01_i1, i64_m1, i64_0, i64_1, i64_2, i64_3, i64_8, i64_9, i64_10, i64_12, i64_15, i64_18, i64_20, i64_24, i64_30, i64_39, i64_48, i64_57, i64_60, i64_99, i64_100, i64_999, i64_99999, cko_c hm.k (show 3 ∈ [3] by decide), dr_c hm.r2, dr_c hm.r9, dr_c hm.r10, dr_c hm.r11, dr_c hm.r12, dr_c hm.r13, dr_c hm.r14, dr_c hm.r15, dr_c hm.r16, dr_c hm.r21, dr_c hm.r23, dr_c hm.r24, dr_c hm.r27, dr_c hm.r28, dr_c hm.r30, dr_c hm.r33, dr_c hm.r34, dr_c hm.r36, dr_c hm.r37, dr_c hm.r38, dr_c hm.r41, dr_c hm.r43, dr_c hm.r44, dr_c hm.r45, dr_c hm.r46, dr_c hm.r47, dr_c hm.r50, dr_c hm.r51, dr_c hm.r52, cka_i hm.k162 hm.l162, cka_i hm.k163 hm.l163, cka_i hm.k164 hm.l164, cka_i hm.k165 hm.l165, cka_i hm.k166 hm.l166, cka_i hm.k167 hm.l167, cka_i hm.k168 hm.l168, cka_i hm.k169 hm.l169, cka_i hm.k170 hm.l170, cka_i hm.k171 hm.l171, cka_i hm.k172 hm.l172, cka_i hm.k173 hm.l173, cka_i hm.k174 hm.l174, cka_i hm.k175 hm.l175, cka_i hm.k176 hm.l176, cka_i hm.k177 hm.l177, cka_i hm.k178 hm.l178, cka_i hm.k179 hm.l179, cka_i hm.k180 hm.l180, cka_i hm.k181 hm.l181, cka_i hm.k182 hm.l182, cka_i hm.k183 hm.l183, cka_i hm.k184 hm.l184, cka_i hm.k185 hm.l185, cka_i hm.k186 hm.l186, cka_i hm.k187 hm.l187, cka_i hm.k188 hm.l188, cka_i hm.k189 hm.l189, cka_i hm.k190 hm.l190, X3_isM hm e7 g8, f])
        exact same (by omega) hA
      · have hj' : ((k + 1 : Nat) : Int) = j := by omega
        (try simp (disch := omega) only [vl_s, bp_s, bd_s, bv_s, i32_nl, i32_n, i32_add, i32_sub, i32_mul, i32_neg, i32_ca, i32_cm, i32_cs, i32_cn, i32_le, i32_lt, i32_eq, i32_cl, Int.toNat_natCast, if_pos, if_neg, ite_true, ite_false, not_true_eq_false, not_false_eq_true, Nat.add_zero, Nat.zero_add, Nat.add_sub_cancel, ck_p, cko_si, cka_si, cko_sl, cka_sl, gi_e, gi_x, gl_e, gl_x, gr_si, gl_si, gi_sl, gr_sl, X3_inI, X1_inI, i32_64, b01_i0, b01_i1, i64_m1, i64_0, i64_1, i64_2, i64_3, i64_8, i64_9, i64_10, i64_12, i64_15, i64_18, i64_20, i64_24, i64_30, i64_39, i64_48, i64_57, i64_60, i64_99, i64_100, i64_999, i64_99999, cko_c hm.k (show 3 ∈ [3] by decide), dr_c hm.r2, dr_c hm.r9, dr_c hm.r10, dr_c hm.r11, dr_c hm.r12, dr_c hm.r13, dr_c hm.r14, dr_c hm.r15, dr_c hm.r16, dr_c hm.r21, dr_c hm.r23, dr_c hm.r24, dr_c hm.r27, dr_c hm.r28, dr_c hm.r30, dr_c hm.r33, dr_c hm.r34, dr_c hm.r36, dr_c hm.r37, dr_c hm.r38, dr_c hm.r41, dr_c hm.r43, dr_c hm.r44, dr_c hm.r45, dr_c hm.r46, dr_c hm.r47, dr_c hm.r50, dr_c hm.r51, dr_c hm.r52, cka_i hm.k162 hm.l162, cka_i hm.k163 hm.l163, cka_i hm.k164 hm.l164, cka_i hm.k165 hm.l165, cka_i hm.k166 hm.l166, cka_i hm.k167 hm.l167, cka_i hm.k168 hm.l168, cka_i hm.k169 hm.l169, cka_i hm.k170 hm.l170, cka_i hm.k171 hm.l171, cka_i hm.k172 hm.l172, cka_i hm.k173 hm.l173, cka_i hm.k174 hm.l174, cka_i hm.k175 hm.l175, cka_i hm.k176 hm.l176, cka_i hm.k177 hm.l177, cka_i hm.k178 hm.l178, cka_i hm.k179 hm.l179, cka_i hm.k180 hm.l180, cka_i hm.k181 hm.l181, cka_i hm.k182 hm.l182, cka_i hm.k183 hm.l183, cka_i hm.k184 hm.l184, cka_i hm.k185 hm.l185, cka_i hm.k186 hm.l186, cka_i hm.k187 hm.l187, cka_i hm.k188 hm.l188, cka_i hm.k189 hm.l189, cka_i hm.k190 hm.l190, X3_isM hm e7 g8, f])
        exact same (by omega) hA
    · rw [if_neg c2] at hA
      by_cases c3 : S.now.food j + n > 99
      · rw [if_pos c3] at hA
        have ha : aft = 0 ∨ aft = 1 := by omega
        rcases ha with rfl | rfl
        · have hj' : ((k : Int) - ((1 : Nat) : Int)) = j := by omega
          have hj2 : k - 1 = j := by omega
          (try simp (disch := omega) only [vl_s, bp_s, bd_s, bv_s, i32_nl, i32_n, i32_add, i32_sub, i32_mul, i32_neg, i32_ca, i32_cm, i32_cs, i32_cn, i32_le, i32_lt, i32_eq, i32_cl, Int.toNat_natCast, if_pos, if_neg, ite_true, ite_false, not_true_eq_false, not_false_eq_true, Nat.add_zero, Nat.zero_add, Nat.add_sub_cancel, ck_p, cko_si, cka_si, cko_sl, cka_sl, gi_e, gi_x, gl_e, gl_x, gr_si, gl_si, gi_sl, gr_sl, X3_inI, X1_inI, i32_64, b01_i0, b01_i1, i64_m1, i64_0, i64_1, i64_2, i64_3, i64_8, i64_9, i64_10, i64_12, i64_15, i64_18, i64_20, i64_24, i64_30, i64_39, i64_48, i64_57, i64_60, i64_99, i64_100, i64_999, i64_99999, cko_c hm.k (show 3 ∈ [3] by decide), dr_c hm.r2, dr_c hm.r9, dr_c hm.r10, dr_c hm.r11, dr_c hm.r12, dr_c hm.r13, dr_c hm.r14, dr_c hm.r15, dr_c hm.r16, dr_c hm.r21, dr_c hm.r23, dr_c hm.r24, dr_c hm.r27, dr_c hm.r28, dr_c hm.r30, dr_c hm.r33, dr_c hm.r34, dr_c hm.r36, dr_c hm.r37, dr_c hm.r38, dr_c hm.r41, dr_c hm.r43, dr_c hm.r44, dr_c hm.r45, dr_c hm.r46, dr_c hm.r47, dr_c hm.r50, dr_c hm.r51, dr_c hm.r52, cka_i hm.k162 hm.l162, cka_i hm.k163 hm.l163, cka_i hm.k164 hm.l164, cka_i hm.k165 hm.l165, cka_i hm.k166 hm.l166, cka_i hm.k167 hm.l167, cka_i hm.k168 hm.l168, cka_i hm.k169 hm.l169, cka_i hm.k170 hm.l170, cka_i hm.k171 hm.l171, cka_i hm.k172 hm.l172, cka_i hm.k173 hm.l173, cka_i hm.k174 hm.l174, cka_i hm.k175 hm.l175, cka_i hm.k176 hm.l176, cka_i hm.k177 hm.l177, cka_i hm.k178 hm.l178, cka_i hm.k179 hm.l179, cka_i hm.k180 hm.l180, cka_i hm.k181 hm.l181, cka_i hm.k182 hm.l182, cka_i hm.k183 hm.l183, cka_i hm.k184 hm.l184, cka_i hm.k185 hm.l185, cka_i hm.k186 hm.l186, cka_i hm.k187 hm.l187, cka_i hm.k188 hm.l188, cka_i hm.k189 hm.l189, cka_i hm.k190 hm.l190, X3_isM hm e7 g8, f, f2, hj2])
          exact same (by omega) hA
        · have hj2 : k + 1 = j := by omega
          (try simp (disch := omega) only [vl_s, bp_s, bd_s, bv_s, i32_nl, i32_n, i32_add, i32_sub, i32_mul, i32_neg, i32_ca, i32_cm, i32_cs, i32_cn, i32_le, i32_lt, i32_eq, i32_cl, Int.toNat_natCast, if_pos, if_neg, ite_true, ite_false, not_true_eq_false, not_false_eq_true, Nat.add_zero, Nat.zero_add, Nat.add_sub_cancel, ck_p, cko_si, cka_si, cko_sl, cka_sl, gi_e, gi_x, gl_e, gl_x, gr_si, gl_si, gi_sl, gr_sl, X3_inI, X1_inI, i32_64, b01_i0, b01_i1, i64_m1, i64_0, i64_1, i64_2, i64_3, i64_8, i64_9, i64_10, i64_12, i64_15, i64_18, i64_20, i64_24, i64_30, i64_39, i64_48, i64_57, i64_60, i64_99, i64_100, i64_999, i64_99999, cko_c hm.k (show 3 ∈ [3] by decide), dr_c hm.r2, dr_c hm.r9, dr_c hm.r10, dr_c hm.r11, dr_c hm.r12, dr_c hm.r13, dr_c hm.r14, dr_c hm.r15, dr_c hm.r16, dr_c hm.r21, dr_c hm.r23, dr_c hm.r24, dr_c hm.r27, dr_c hm.r28, dr_c hm.r30, dr_c hm.r33, dr_c hm.r34, dr_c hm.r36, dr_c hm.r37, dr_c hm.r38, dr_c hm.r41, dr_c hm.r43, dr_c hm.r44, dr_c hm.r45, dr_c hm.r46, dr_c hm.r47, dr_c hm.r50, dr_c hm.r51, dr_c hm.r52, cka_i hm.k162 hm.l162, cka_i hm.k163 hm.l163, cka_i hm.k164 hm.l164, cka_i hm.k165 hm.l165, cka_i hm.k166 hm.l166, cka_i hm.k167 hm.l167, cka_i hm.k168 hm.l168, cka_i hm.k169 hm.l169, cka_i hm.k170 hm.l170, cka_i hm.k171 hm.l171, cka_i hm.k172 hm.l172, cka_i hm.k173 hm.l173, cka_i hm.k174 hm.l174, cka_i hm.k175 hm.l175, cka_i hm.k176 hm.l176, cka_i hm.k177 hm.l177, cka_i hm.k178 hm.l178, cka_i hm.k179 hm.l179, cka_i hm.k180 hm.l180, cka_i hm.k181 hm.l181, cka_i hm.k182 hm.l182, cka_i hm.k183 hm.l183, cka_i hm.k184 hm.l184, cka_i hm.k185 hm.l185, cka_i hm.k186 hm.l186, cka_i hm.k187 hm.l187, cka_i hm.k188 hm.l188, cka_i hm.k189 hm.l189, cka_i hm.k190 hm.l190, X3_isM hm e7 g8, f, f2, hj2])
          exact same (by omega) hA
      · rw [if_neg c3] at hA
        have h0 : 0 ≤ passA S.mes.1 S.now k n aft := by rw [hA]; omega
        have F2 : Fr (KM [0, 4]) 0 0 σ (si (si σ 168 (41 + k) (i32 (S.now.food k - n))) 168 (41 + j) (i32 (S.now.food j + n))) := (Fr.rf.wm 4 rfl (by decide)).wm 4 rfl (by decide)
        have q2 := h.uNow F2 (foodW_row (n := S.now.food j + n) (k := j) (foodW_row (n := S.now.food k - n) h.now g.now.len (by omega)) g.now.len (by omega))
        have fin : ok (some (i32 (S.now.food k - n), si (si σ 168 (41 + k) (i32 (S.now.food k - n))) 168 (41 + j) (i32 (S.now.food j + n)))) Q := by
          rw [← hQ]
          rw [if_pos h0, hA]
          unfold passW
          rw [hj, Int.toNat_natCast, Int.toNat_natCast]
          exact ok_some ⟨rfl, q2, F2⟩
        have ha : aft = 0 ∨ aft = 1 := by omega
        rcases ha with rfl | rfl
        · have hj2 : k - 1 = j := by omega
          (try simp (disch := omega) only [vl_s, bp_s, bd_s, bv_s, i32_nl, i32_n, i32_add, i32_sub, i32_mul, i32_neg, i32_ca, i32_cm, i32_cs, i32_cn, i32_le, i32_lt, i32_eq, i32_cl, Int.toNat_natCast, if_pos, if_neg, ite_true, ite_false, not_true_eq_false, not_false_eq_true, Nat.add_zero, Nat.zero_add, Nat.add_sub_cancel, ck_p, cko_si, cka_si, cko_sl, cka_sl, gi_e, gi_x, gl_e, gl_x, gr_si, gl_si, gi_sl, gr_sl, X3_inI, X1_inI, i32_64, b01_i0, b01_i1, i64_m1, i64_0, i64_1, i64_2, i64_3, i64_8, i64_9, i64_10, i64_12, i64_15, i64_18, i64_20, i64_24, i64_30, i64_39, i64_48, i64_57, i64_60, i64_99, i64_100, i64_999, i64_99999, cko_c hm.k (show 3 ∈ [3] by decide), dr_c hm.r2, dr_c hm.r9, dr_c hm.r10, dr_c hm.r11, dr_c hm.r12, dr_c hm.r13, dr_c hm.r14, dr_c hm.r15, dr_c hm.r16, dr_c hm.r21, dr_c hm.r23, dr_c hm.r24, dr_c hm.r27, dr_c hm.r28, dr_c hm.r30, dr_c hm.r33, dr_c hm.r34, dr_c hm.r36, dr_c hm.r37, dr_c hm.r38, dr_c hm.r41, dr_c hm.r43, dr_c hm.r44, dr_c hm.r45, dr_c hm.r46, dr_c hm.r47, dr_c hm.r50, dr_c hm.r51, dr_c hm.r52, cka_i hm.k162 hm.l162, cka_i hm.k163 hm.l163, cka_i hm.k164 hm.l164, cka_i hm.k165 hm.l165, cka_i hm.k166 hm.l166, cka_i hm.k167 hm.l167, cka_i hm.k168 hm.l168, cka_i hm.k169 hm.l169, cka_i hm.k170 hm.l170, cka_i hm.k171 hm.l171, cka_i hm.k172 hm.l172, cka_i hm.k173 hm.l173, cka_i hm.k174 hm.l174, cka_i hm.k175 hm.l175, cka_i hm.k176 hm.l176, cka_i hm.k177 hm.l177, cka_i hm.k178 hm.l178, cka_i hm.k179 hm.l179, cka_i hm.k180 hm.l180, cka_i hm.k181 hm.l181, cka_i hm.k182 hm.l182, cka_i hm.k183 hm.l183, cka_i hm.k184 hm.l184, cka_i hm.k185 hm.l185, cka_i hm.k186 hm.l186, cka_i hm.k187 hm.l187, cka_i hm.k188 hm.l188, cka_i hm.k189 hm.l189, cka_i hm.k190 hm.l190, X3_isM hm e7 g8, f, f2, hj2])
          exact fin
        · have hj2 : k + 1 = j := by omega
          (try simp (disch := omega) only [vl_s, bp_s, bd_s, bv_s, i32_nl, i32_n, i32_add, i32_sub, i32_mul, i32_neg, i32_ca, i32_cm, i32_cs, i32_cn, i32_le, i32_lt, i32_eq, i32_cl, Int.toNat_natCast, if_pos, if_neg, ite_true, ite_false, not_true_eq_false, not_false_eq_true, Nat.add_zero, Nat.zero_add, Nat.add_sub_cancel, ck_p, cko_si, cka_si, cko_sl, cka_sl, gi_e, gi_x, gl_e, gl_x, gr_si, gl_si, gi_sl, gr_sl, X3_inI, X1_inI, i32_64, b01_i0, b01_i1, i64_m1, i64_0, i64_1, i64_2, i64_3, i64_8, i64_9, i64_10, i64_12, i64_15, i64_18, i64_20, i64_24, i64_30, i64_39, i64_48, i64_57, i64_60, i64_99, i64_100, i64_999, i64_99999, cko_c hm.k (show 3 ∈ [3] by decide), dr_c hm.r2, dr_c hm.r9, dr_c hm.r10, dr_c hm.r11, dr_c hm.r12, dr_c hm.r13, dr_c hm.r14, dr_c hm.r15, dr_c hm.r16, dr_c hm.r21, dr_c hm.r23, dr_c hm.r24, dr_c hm.r27, dr_c hm.r28, dr_c hm.r30, dr_c hm.r33, dr_c hm.r34, dr_c hm.r36, dr_c hm.r37, dr_c hm.r38, dr_c hm.r41, dr_c hm.r43, dr_c hm.r44, dr_c hm.r45, dr_c hm.r46, dr_c hm.r47, dr_c hm.r50, dr_c hm.r51, dr_c hm.r52, cka_i hm.k162 hm.l162, cka_i hm.k163 hm.l163, cka_i hm.k164 hm.l164, cka_i hm.k165 hm.l165, cka_i hm.k166 hm.l166, cka_i hm.k167 hm.l167, cka_i hm.k168 hm.l168, cka_i hm.k169 hm.l169, cka_i hm.k170 hm.l170, cka_i hm.k171 hm.l171, cka_i hm.k172 hm.l172, cka_i hm.k173 hm.l173, cka_i hm.k174 hm.l174, cka_i hm.k175 hm.l175, cka_i hm.k176 hm.l176, cka_i hm.k177 hm.l177, cka_i hm.k178 hm.l178, cka_i hm.k179 hm.l179, cka_i hm.k180 hm.l180, cka_i hm.k181 hm.l181, cka_i hm.k182 hm.l182, cka_i hm.k183 hm.l183, cka_i hm.k184 hm.l184, cka_i hm.k185 hm.l185, cka_i hm.k186 hm.l186, cka_i hm.k187 hm.l187, cka_i hm.k188 hm.l188, cka_i hm.k189 hm.l189, cka_i hm.k190 hm.l190, X3_isM hm e7 g8, f, f2, hj2])
          exact fin
  · have hA : passA S.mes.1 S.now m n aft = -1 := by unfold passA; rw [if_pos c1]
    have e := X3_isM (σ := σ) hm e7 g8 h1 h2
    have e3 : ∀ b1 b2 : Int64, f_X3_in σ (Int32.toInt64 (i32 aft)) b1 b2 = some (b01 (b1.toInt ≤ aft ∧ aft ≤ b2.toInt)) := fun _ _ => X3_inI h5 h6
    have one : ¬ (1 : Int32) = 0 := by decide
    by_cases d0 : 0 ≤ m ∧ m < S.mes.1
    · by_cases d1 : 0 ≤ aft ∧ aft ≤ 1
      · have ha : aft = 0 ∨ aft = 1 := by omega
        by_cases d2 : 0 ≤ m + 2 * aft - 1 ∧ m + 2 * aft - 1 < S.mes.1
        · have d3 : ¬ (1 ≤ n ∧ n ≤ 99) := fun q => c1 ⟨d0, d1, d2, q⟩
          clear c1
          rcases ha with rfl | rfl
          · (try simp (disch := omega) only [vl_s, bp_s, bd_s, bv_s, i32_nl, i32_n, i32_add, i32_sub, i32_mul, i32_neg, i32_ca, i32_cm, i32_cs, i32_cn, i32_le, i32_lt, i32_eq, i32_cl, Int.toNat_natCast, if_pos, if_neg, ite_true, ite_false, not_true_eq_false, not_false_eq_true, Nat.add_zero, Nat.zero_add, Nat.add_sub_cancel, ck_p, cko_si, cka_si, cko_sl, cka_sl, gi_e, gi_x, gl_e, gl_x, gr_si, gl_si, gi_sl, gr_sl, X3_inI, X1_inI, i32_64, b01_i0, b01_i1, i64_m1, i64_0, i64_1, i64_2, i64_3, i64_8, i64_9, i64_10, i64_12, i64_15, i64_18, i64_20, i64_24, i64_30, i64_39, i64_48, i64_57, i64_60, i64_99, i64_100, i64_999, i64_99999, cko_c hm.k (show 3 ∈ [3] by decide), X3_isM hm e7 g8])
            exact same (by omega) hA
          · (try simp (disch := omega) only [vl_s, bp_s, bd_s, bv_s, i32_nl, i32_n, i32_add, i32_sub, i32_mul, i32_neg, i32_ca, i32_cm, i32_cs, i32_cn, i32_le, i32_lt, i32_eq, i32_cl, Int.toNat_natCast, if_pos, if_neg, ite_true, ite_false, not_true_eq_false, not_false_eq_true, Nat.add_zero, Nat.zero_add, Nat.add_sub_cancel, ck_p, cko_si, cka_si, cko_sl, cka_sl, gi_e, gi_x, gl_e, gl_x, gr_si, gl_si, gi_sl, gr_sl, X3_inI, X1_inI, i32_64, b01_i0, b01_i1, i64_m1, i64_0, i64_1, i64_2, i64_3, i64_8, i64_9, i64_10, i64_12, i64_15, i64_18, i64_20, i64_24, i64_30, i64_39, i64_48, i64_57, i64_60, i64_99, i64_100, i64_999, i64_99999, cko_c hm.k (show 3 ∈ [3] by decide), X3_isM hm e7 g8])
            exact same (by omega) hA
        · clear c1
          rcases ha with rfl | rfl
          · (try simp (disch := omega) only [vl_s, bp_s, bd_s, bv_s, i32_nl, i32_n, i32_add, i32_sub, i32_mul, i32_neg, i32_ca, i32_cm, i32_cs, i32_cn, i32_le, i32_lt, i32_eq, i32_cl, Int.toNat_natCast, if_pos, if_neg, ite_true, ite_false, not_true_eq_false, not_false_eq_true, Nat.add_zero, Nat.zero_add, Nat.add_sub_cancel, ck_p, cko_si, cka_si, cko_sl, cka_sl, gi_e, gi_x, gl_e, gl_x, gr_si, gl_si, gi_sl, gr_sl, X3_inI, X1_inI, i32_64, b01_i0, b01_i1, i64_m1, i64_0, i64_1, i64_2, i64_3, i64_8, i64_9, i64_10, i64_12, i64_15, i64_18, i64_20, i64_24, i64_30, i64_39, i64_48, i64_57, i64_60, i64_99, i64_100, i64_999, i64_99999, cko_c hm.k (show 3 ∈ [3] by decide), X3_isM hm e7 g8])
            exact same (by omega) hA
          · (try simp (disch := omega) only [vl_s, bp_s, bd_s, bv_s, i32_nl, i32_n, i32_add, i32_sub, i32_mul, i32_neg, i32_ca, i32_cm, i32_cs, i32_cn, i32_le, i32_lt, i32_eq, i32_cl, Int.toNat_natCast, if_pos, if_neg, ite_true, ite_false, not_true_eq_false, not_false_eq_true, Nat.add_zero, Nat.zero_add, Nat.add_sub_cancel, ck_p, cko_si, cka_si, cko_sl, cka_sl, gi_e, gi_x, gl_e, gl_x, gr_si, gl_si, gi_sl, gr_sl, X3_inI, X1_inI, i32_64, b01_i0, b01_i1, i64_m1, i64_0, i64_1, i64_2, i64_3, i64_8, i64_9, i64_10, i64_12, i64_15, i64_18, i64_20, i64_24, i64_30, i64_39, i64_48, i64_57, i64_60, i64_99, i64_100, i64_999, i64_99999, cko_c hm.k (show 3 ∈ [3] by decide), X3_isM hm e7 g8])
            exact same (by omega) hA
      · have d4 : ¬ ((0 : Int64).toInt ≤ aft ∧ aft ≤ (1 : Int64).toInt) := d1
        simp only [vl_s, cko_c hm.k (show 3 ∈ [3] by decide), e, e3, bp_s, b01_t d0, b01_f d4, one, ite_true, ite_false]
        split
        · exact same (by omega) hA
        · exact same (by omega) hA
    · simp only [vl_s, cko_c hm.k (show 3 ∈ [3] by decide), e, bp_s, b01_f d0, ite_true]
      split
      · exact same (by omega) hA
      · exact same (by omega) hA
