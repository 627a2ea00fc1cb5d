/-! THE MODEL: rows copied -/
set_option maxRecDepth 100000
theorem X3_puts2 {σ : vMem} {Q : vMem → Prop} (hm : ML σ) (hn : 192 ≤ mn σ) (hK : ∀ σ1, Fr (fun b j => ¬ (b = 169 ∧ 0 ≤ j ∧ j < 0 + 57)) 0 0 σ σ1 → (∀ j, j < 57 → gi σ1 169 (0 + j) = gi σ 168 (0 + j)) → ok (some σ1) Q) : ok (f_X3_puts_2 161 FU σ (i32 ((0 : Nat) : Int))) Q := by
  refine loop2 (F := f_X3_puts_2 161) 57 (fun k σ1 v => v = i32 k ∧ ML σ1 ∧ Fr (fun b j => ¬ (b = 169 ∧ 0 ≤ j ∧ j < 0 + 57)) 0 0 σ σ1 ∧ ∀ j, j < k → gi σ1 169 (0 + j) = gi σ 168 (0 + j)) ?_ FU 0 σ _ (by omega) ⟨rfl, hm, Fr.rf, fun j hj => by omega⟩ (by unfold FU; omega)
  rintro n k σ1 v hk2 ⟨rfl, h1, F1, hc1⟩ IH
  rw [f_X3_puts_2.eq_2]
  by_cases hc : k < 57
  · (try simp (disch := omega) only [vl_s, bp_s, bd_s, bv_s, i32_nl, i32_n, i32_add, i32_sub, i32_mul, i32_neg, i32_ca, i32_cm, i32_cs, i32_cn, i32_le, i32_lt, i32_eq, i32_cl, Int.toNat_natCast, if_pos, if_neg, ite_true, ite_false, not_true_eq_false, not_false_eq_true, Nat.add_zero, Nat.zero_add, Nat.add_sub_cancel, ck_p, cko_si, cka_si, cko_sl, cka_sl, gi_e, gi_x, gl_e, gl_x, gr_si, gl_si, gi_sl, gr_sl, cko_c h1.k (show 3 ∈ [3] by decide), dr_c h1.r2, dr_c h1.r9, dr_c h1.r10, dr_c h1.r11, dr_c h1.r12, dr_c h1.r13, dr_c h1.r14, dr_c h1.r15, dr_c h1.r16, dr_c h1.r21, dr_c h1.r23, dr_c h1.r24, dr_c h1.r27, dr_c h1.r28, dr_c h1.r30, dr_c h1.r33, dr_c h1.r34, dr_c h1.r36, dr_c h1.r37, dr_c h1.r38, dr_c h1.r41, dr_c h1.r43, dr_c h1.r44, dr_c h1.r45, dr_c h1.r46, dr_c h1.r47, dr_c h1.r50, dr_c h1.r51, dr_c h1.r52, cka_i h1.k162 h1.l162, cka_i h1.k163 h1.l163, cka_i h1.k164 h1.l164, cka_i h1.k165 h1.l165, cka_i h1.k166 h1.l166, cka_i h1.k167 h1.l167, cka_i h1.k168 h1.l168, cka_i h1.k169 h1.l169, cka_i h1.k170 h1.l170, cka_i h1.k171 h1.l171, cka_i h1.k172 h1.l172, cka_i h1.k173 h1.l173, cka_i h1.k174 h1.l174, cka_i h1.k175 h1.l175, cka_i h1.k176 h1.l176, cka_i h1.k177 h1.l177, cka_i h1.k178 h1.l178, cka_i h1.k179 h1.l179, cka_i h1.k180 h1.l180, cka_i h1.k181 h1.l181, cka_i h1.k182 h1.l182, cka_i h1.k183 h1.l183, cka_i h1.k184 h1.l184, cka_i h1.k185 h1.l185, cka_i h1.k186 h1.l186, cka_i h1.k187 h1.l187, cka_i h1.k188 h1.l188, cka_i h1.k189 h1.l189, cka_i h1.k190 h1.l190])
    refine IH hc _ _ ⟨rfl, h1, F1.wi (fun q => q ⟨rfl, by omega, by omega⟩), fun j hj => ?_⟩
    by_cases hjk : j = k
    · subst hjk
      simp (disch := omega) only [cko_si, cka_si, cko_sl, cka_sl, gi_e, gi_x, gl_e, gl_x, gr_si, gl_si, gi_sl, gr_sl, Nat.zero_add]
      exact (F1.i (by omega) (fun q => by omega)).trans (by simp only [Nat.zero_add])
    · simp (disch := omega) only [cko_si, cka_si, cko_sl, cka_sl, gi_e, gi_x, gl_e, gl_x, gr_si, gl_si, gi_sl, gr_sl]
      exact hc1 j (by omega)
  · have : k = 57 := by omega
    subst this
    simp (disch := omega) only [vl_s, bp_s, bd_s, bv_s, i32_nl, i32_n, i32_add, i32_sub, i32_mul, i32_neg, i32_ca, i32_cm, i32_cs, i32_cn, i32_le, i32_lt, i32_eq, i32_cl, Int.toNat_natCast, if_pos, if_neg, ite_true, ite_false, not_true_eq_false, not_false_eq_true, Nat.add_zero, Nat.zero_add, Nat.add_sub_cancel, ck_p]
    exact hK σ1 F1 hc1

theorem X3_undo26 {σ : vMem} {K : vMem → Option (Int32 × vMem)} {Q : Int32 × vMem → Prop} (hm : ML σ) (hn : 192 ≤ mn σ) {U : Nat} (hU : gi σ 161 29 = i32 U) (hU2 : U ≤ 15) (hK : ∀ σ1, Fr (fun b j => ¬ (b = 168 ∧ 0 ≤ j ∧ j < 0 + 57)) 0 0 σ σ1 → (∀ j, j < 57 → gi σ1 168 (0 + j) = gi σ 176 (57 * U + j)) → ok (K σ1) Q) : ok (f_X3_undo_26 161 K FU σ (i32 ((0 : Nat) : Int))) Q := by
  refine loop2 (F := f_X3_undo_26 161 K) 57 (fun k σ1 v => v = i32 k ∧ ML σ1 ∧ gi σ1 161 29 = i32 U ∧ Fr (fun b j => ¬ (b = 168 ∧ 0 ≤ j ∧ j < 0 + 57)) 0 0 σ σ1 ∧ ∀ j, j < k → gi σ1 168 (0 + j) = gi σ 176 (57 * U + j)) ?_ FU 0 σ _ (by omega) ⟨rfl, hm, hU, Fr.rf, fun j hj => by omega⟩ (by unfold FU; omega)
  rintro n k σ1 v hk2 ⟨rfl, h1, hU1, F1, hc1⟩ IH
  rw [f_X3_undo_26.eq_2]
  by_cases hc : k < 57
  · (try simp (disch := omega) only [vl_s, bp_s, bd_s, bv_s, i32_nl, i32_n, i32_add, i32_sub, i32_mul, i32_neg, i32_ca, i32_cm, i32_cs, i32_cn, i32_le, i32_lt, i32_eq, i32_cl, Int.toNat_natCast, if_pos, if_neg, ite_true, ite_false, not_true_eq_false, not_false_eq_true, Nat.add_zero, Nat.zero_add, Nat.add_sub_cancel, ck_p, cko_si, cka_si, cko_sl, cka_sl, gi_e, gi_x, gl_e, gl_x, gr_si, gl_si, gi_sl, gr_sl, cko_c h1.k (show 3 ∈ [3] by decide), dr_c h1.r2, dr_c h1.r9, dr_c h1.r10, dr_c h1.r11, dr_c h1.r12, dr_c h1.r13, dr_c h1.r14, dr_c h1.r15, dr_c h1.r16, dr_c h1.r21, dr_c h1.r23, dr_c h1.r24, dr_c h1.r27, dr_c h1.r28, dr_c h1.r30, dr_c h1.r33, dr_c h1.r34, dr_c h1.r36, dr_c h1.r37, dr_c h1.r38, dr_c h1.r41, dr_c h1.r43, dr_c h1.r44, dr_c h1.r45, dr_c h1.r46, dr_c h1.r47, dr_c h1.r50, dr_c h1.r51, dr_c h1.r52, cka_i h1.k162 h1.l162, cka_i h1.k163 h1.l163, cka_i h1.k164 h1.l164, cka_i h1.k165 h1.l165, cka_i h1.k166 h1.l166, cka_i h1.k167 h1.l167, cka_i h1.k168 h1.l168, cka_i h1.k169 h1.l169, cka_i h1.k170 h1.l170, cka_i h1.k171 h1.l171, cka_i h1.k172 h1.l172, cka_i h1.k173 h1.l173, cka_i h1.k174 h1.l174, cka_i h1.k175 h1.l175, cka_i h1.k176 h1.l176, cka_i h1.k177 h1.l177, cka_i h1.k178 h1.l178, cka_i h1.k179 h1.l179, cka_i h1.k180 h1.l180, cka_i h1.k181 h1.l181, cka_i h1.k182 h1.l182, cka_i h1.k183 h1.l183, cka_i h1.k184 h1.l184, cka_i h1.k185 h1.l185, cka_i h1.k186 h1.l186, cka_i h1.k187 h1.l187, cka_i h1.k188 h1.l188, cka_i h1.k189 h1.l189, cka_i h1.k190 h1.l190, hU1])
    refine IH hc _ _ ⟨rfl, h1, by simp (disch := omega) only [cko_si, cka_si, cko_sl, cka_sl, gi_e, gi_x, gl_e, gl_x, gr_si, gl_si, gi_sl, gr_sl]; exact hU1, F1.wi (fun q => q ⟨rfl, by omega, by omega⟩), fun j hj => ?_⟩
    by_cases hjk : j = k
    · subst hjk
      simp (disch := omega) only [cko_si, cka_si, cko_sl, cka_sl, gi_e, gi_x, gl_e, gl_x, gr_si, gl_si, gi_sl, gr_sl, Nat.zero_add]
      exact (F1.i (by omega) (fun q => by omega)).trans (by simp only [Nat.zero_add])
    · simp (disch := omega) only [cko_si, cka_si, cko_sl, cka_sl, gi_e, gi_x, gl_e, gl_x, gr_si, gl_si, gi_sl, gr_sl]
      exact hc1 j (by omega)
  · have : k = 57 := by omega
    subst this
    simp (disch := omega) only [vl_s, bp_s, bd_s, bv_s, i32_nl, i32_n, i32_add, i32_sub, i32_mul, i32_neg, i32_ca, i32_cm, i32_cs, i32_cn, i32_le, i32_lt, i32_eq, i32_cl, Int.toNat_natCast, if_pos, if_neg, ite_true, ite_false, not_true_eq_false, not_false_eq_true, Nat.add_zero, Nat.zero_add, Nat.add_sub_cancel, ck_p]
    exact hK σ1 F1 hc1

theorem X3_keep38 {σ : vMem} {Q : Int32 × vMem → Prop} (hm : ML σ) (hn : 192 ≤ mn σ) {i : Nat} (hi : i < 3) (hK : ∀ σ1, Fr (fun b j => ¬ (b = 190 ∧ 57 * i ≤ j ∧ j < 57 * i + 57)) 0 0 σ σ1 → (∀ j, j < 57 → gi σ1 190 (57 * i + j) = gi σ 168 (0 + j)) → ok (some (1, σ1)) Q) : ok (f_X3_keep_38 161 (i32 (i : Int)) FU σ (i32 ((0 : Nat) : Int))) Q := by
  refine loop2 (F := f_X3_keep_38 161 (i32 (i : Int))) 57 (fun k σ1 v => v = i32 k ∧ ML σ1 ∧ Fr (fun b j => ¬ (b = 190 ∧ 57 * i ≤ j ∧ j < 57 * i + 57)) 0 0 σ σ1 ∧ ∀ j, j < k → gi σ1 190 (57 * i + j) = gi σ 168 (0 + j)) ?_ FU 0 σ _ (by omega) ⟨rfl, hm, Fr.rf, fun j hj => by omega⟩ (by unfold FU; omega)
  rintro n k σ1 v hk2 ⟨rfl, h1, F1, hc1⟩ IH
  rw [f_X3_keep_38.eq_2]
  by_cases hc : k < 57
  · (try simp (disch := omega) only [vl_s, bp_s, bd_s, bv_s, i32_nl, i32_n, i32_add, i32_sub, i32_mul, i32_neg, i32_ca, i32_cm, i32_cs, i32_cn, i32_le, i32_lt, i32_eq, i32_cl, Int.toNat_natCast, if_pos, if_neg, ite_true, ite_false, not_true_eq_false, not_false_eq_true, Nat.add_zero, Nat.zero_add, Nat.add_sub_cancel, ck_p, cko_si, cka_si, cko_sl, cka_sl, gi_e, gi_x, gl_e, gl_x, gr_si, gl_si, gi_sl, gr_sl, cko_c h1.k (show 3 ∈ [3] by decide), dr_c h1.r2, dr_c h1.r9, dr_c h1.r10, dr_c h1.r11, dr_c h1.r12, dr_c h1.r13, dr_c h1.r14, dr_c h1.r15, dr_c h1.r16, dr_c h1.r21, dr_c h1.r23, dr_c h1.r24, dr_c h1.r27, dr_c h1.r28, dr_c h1.r30, dr_c h1.r33, dr_c h1.r34, dr_c h1.r36, dr_c h1.r37, dr_c h1.r38, dr_c h1.r41, dr_c h1.r43, dr_c h1.r44, dr_c h1.r45, dr_c h1.r46, dr_c h1.r47, dr_c h1.r50, dr_c h1.r51, dr_c h1.r52, cka_i h1.k162 h1.l162, cka_i h1.k163 h1.l163, cka_i h1.k164 h1.l164, cka_i h1.k165 h1.l165, cka_i h1.k166 h1.l166, cka_i h1.k167 h1.l167, cka_i h1.k168 h1.l168, cka_i h1.k169 h1.l169, cka_i h1.k170 h1.l170, cka_i h1.k171 h1.l171, cka_i h1.k172 h1.l172, cka_i h1.k173 h1.l173, cka_i h1.k174 h1.l174, cka_i h1.k175 h1.l175, cka_i h1.k176 h1.l176, cka_i h1.k177 h1.l177, cka_i h1.k178 h1.l178, cka_i h1.k179 h1.l179, cka_i h1.k180 h1.l180, cka_i h1.k181 h1.l181, cka_i h1.k182 h1.l182, cka_i h1.k183 h1.l183, cka_i h1.k184 h1.l184, cka_i h1.k185 h1.l185, cka_i h1.k186 h1.l186, cka_i h1.k187 h1.l187, cka_i h1.k188 h1.l188, cka_i h1.k189 h1.l189, cka_i h1.k190 h1.l190])
    refine IH hc _ _ ⟨rfl, h1, F1.wi (fun q => q ⟨rfl, by omega, by omega⟩), fun j hj => ?_⟩
    by_cases hjk : j = k
    · subst hjk
      simp (disch := omega) only [cko_si, cka_si, cko_sl, cka_sl, gi_e, gi_x, gl_e, gl_x, gr_si, gl_si, gi_sl, gr_sl, Nat.zero_add]
      exact (F1.i (by omega) (fun q => by omega)).trans (by simp only [Nat.zero_add])
    · simp (disch := omega) only [cko_si, cka_si, cko_sl, cka_sl, gi_e, gi_x, gl_e, gl_x, gr_si, gl_si, gi_sl, gr_sl]
      exact hc1 j (by omega)
  · have : k = 57 := by omega
    subst this
    simp (disch := omega) only [vl_s, bp_s, bd_s, bv_s, i32_nl, i32_n, i32_add, i32_sub, i32_mul, i32_neg, i32_ca, i32_cm, i32_cs, i32_cn, i32_le, i32_lt, i32_eq, i32_cl, Int.toNat_natCast, if_pos, if_neg, ite_true, ite_false, not_true_eq_false, not_false_eq_true, Nat.add_zero, Nat.zero_add, Nat.add_sub_cancel, ck_p]
    exact hK σ1 F1 hc1

theorem X3_again43 {σ : vMem} {K : vMem → Option (Int32 × vMem)} {Q : Int32 × vMem → Prop} (hm : ML σ) (hn : 192 ≤ mn σ) {i : Nat} (hi : i < 3) (hK : ∀ σ1, Fr (fun b j => ¬ (b = 168 ∧ 0 ≤ j ∧ j < 0 + 57)) 0 0 σ σ1 → (∀ j, j < 57 → gi σ1 168 (0 + j) = gi σ 190 (57 * i + j)) → ok (K σ1) Q) : ok (f_X3_again_43 161 (i32 (i : Int)) K FU σ (i32 ((0 : Nat) : Int))) Q := by
  refine loop2 (F := f_X3_again_43 161 (i32 (i : Int)) K) 57 (fun k σ1 v => v = i32 k ∧ ML σ1 ∧ Fr (fun b j => ¬ (b = 168 ∧ 0 ≤ j ∧ j < 0 + 57)) 0 0 σ σ1 ∧ ∀ j, j < k → gi σ1 168 (0 + j) = gi σ 190 (57 * i + j)) ?_ FU 0 σ _ (by omega) ⟨rfl, hm, Fr.rf, fun j hj => by omega⟩ (by unfold FU; omega)
  rintro n k σ1 v hk2 ⟨rfl, h1, F1, hc1⟩ IH
  rw [f_X3_again_43.eq_2]
  by_cases hc : k < 57
  · (try simp (disch := omega) only [vl_s, bp_s, bd_s, bv_s, i32_nl, i32_n, i32_add, i32_sub, i32_mul, i32_neg, i32_ca, i32_cm, i32_cs, i32_cn, i32_le, i32_lt, i32_eq, i32_cl, Int.toNat_natCast, if_pos, if_neg, ite_true, ite_false, not_true_eq_false, not_false_eq_true, Nat.add_zero, Nat.zero_add, Nat.add_sub_cancel, ck_p, cko_si, cka_si, cko_sl, cka_sl, gi_e, gi_x, gl_e, gl_x, gr_si, gl_si, gi_sl, gr_sl, cko_c h1.k (show 3 ∈ [3] by decide), dr_c h1.r2, dr_c h1.r9, dr_c h1.r10, dr_c h1.r11, dr_c h1.r12, dr_c h1.r13, dr_c h1.r14, dr_c h1.r15, dr_c h1.r16, dr_c h1.r21, dr_c h1.r23, dr_c h1.r24, dr_c h1.r27, dr_c h1.r28, dr_c h1.r30, dr_c h1.r33, dr_c h1.r34, dr_c h1.r36, dr_c h1.r37, dr_c h1.r38, dr_c h1.r41, dr_c h1.r43, dr_c h1.r44, dr_c h1.r45, dr_c h1.r46, dr_c h1.r47, dr_c h1.r50, dr_c h1.r51, dr_c h1.r52, cka_i h1.k162 h1.l162, cka_i h1.k163 h1.l163, cka_i h1.k164 h1.l164, cka_i h1.k165 h1.l165, cka_i h1.k166 h1.l166, cka_i h1.k167 h1.l167, cka_i h1.k168 h1.l168, cka_i h1.k169 h1.l169, cka_i h1.k170 h1.l170, cka_i h1.k171 h1.l171, cka_i h1.k172 h1.l172, cka_i h1.k173 h1.l173, cka_i h1.k174 h1.l174, cka_i h1.k175 h1.l175, cka_i h1.k176 h1.l176, cka_i h1.k177 h1.l177, cka_i h1.k178 h1.l178, cka_i h1.k179 h1.l179, cka_i h1.k180 h1.l180, cka_i h1.k181 h1.l181, cka_i h1.k182 h1.l182, cka_i h1.k183 h1.l183, cka_i h1.k184 h1.l184, cka_i h1.k185 h1.l185, cka_i h1.k186 h1.l186, cka_i h1.k187 h1.l187, cka_i h1.k188 h1.l188, cka_i h1.k189 h1.l189, cka_i h1.k190 h1.l190])
    refine IH hc _ _ ⟨rfl, h1, F1.wi (fun q => q ⟨rfl, by omega, by omega⟩), fun j hj => ?_⟩
    by_cases hjk : j = k
    · subst hjk
      simp (disch := omega) only [cko_si, cka_si, cko_sl, cka_sl, gi_e, gi_x, gl_e, gl_x, gr_si, gl_si, gi_sl, gr_sl, Nat.zero_add]
      exact (F1.i (by omega) (fun q => by omega)).trans (by simp only [Nat.zero_add])
    · simp (disch := omega) only [cko_si, cka_si, cko_sl, cka_sl, gi_e, gi_x, gl_e, gl_x, gr_si, gl_si, gi_sl, gr_sl]
      exact hc1 j (by omega)
  · have : k = 57 := by omega
    subst this
    simp (disch := omega) only [vl_s, bp_s, bd_s, bv_s, i32_nl, i32_n, i32_add, i32_sub, i32_mul, i32_neg, i32_ca, i32_cm, i32_cs, i32_cn, i32_le, i32_lt, i32_eq, i32_cl, Int.toNat_natCast, if_pos, if_neg, ite_true, ite_false, not_true_eq_false, not_false_eq_true, Nat.add_zero, Nat.zero_add, Nat.add_sub_cancel, ck_p]
    exact hK σ1 F1 hc1

theorem X3_puts {σ : vMem} {W : Wt} (hm : ML σ) (hn : 192 ≤ mn σ) (h : RowIs W (gi σ 168)) (hw : W.ways.length ≤ 12) : ok (f_X3_puts σ 161) (fun σ' => RowIs W (gi σ' 169) ∧ Fr (KM [0]) 0 0 σ σ') := by
  unfold f_X3_puts
  refine X3_puts2 hm hn (fun σ1 F hc => ok_some ⟨h.eq hw (fun j hj => ?_), F.mono (fun b j q e => q ?_)⟩)
  · have := hc j hj
    simpa only [Nat.zero_add] using this
  · rw [e.1, show reg 169 j = 0 from rfl]; decide
theorem M_pass {S : St} {σ : vMem} {B m n aft : Int} (h : RM S σ) (g : gSt B S) (h1 : -2147483648 ≤ m) (h2 : m < 2147483648) (h3 : -2147483648 ≤ n) (h4 : n < 2147483648) (h5 : -2147483648 ≤ aft) (h6 : aft < 2147483648) : ok (f_X3_pass σ 161 (i32 m) (i32 n) (i32 aft)) (fun r => r.1 = i32 (passA S.mes.1 S.now m n aft) ∧ RM (if 0 ≤ passA S.mes.1 S.now m n aft then (S.wNow (passW S.now m n aft)).wUnd (pushU S.und S.now) else S) r.2 ∧ FM σ r.2) := by
  have hm := h.ml
  generalize hQ : (fun r : Int32 × vMem => r.1 = i32 (passA S.mes.1 S.now m n aft) ∧ RM (if 0 ≤ passA S.mes.1 S.now m n aft then (S.wNow (passW S.now m n aft)).wUnd (pushU S.und S.now) else S) r.2 ∧ FM σ r.2) = Q
  unfold f_X3_pass
  (try simp (disch := omega) only [vl_s, bp_s, bd_s, bv_s, i32_nl, i32_n, i32_add, i32_sub, i32_mul, i32_neg, i32_ca, i32_cm, i32_cs, i32_cn, i32_le, i32_lt, i32_eq, i32_cl, Int.toNat_natCast, if_pos, if_neg, ite_true, ite_false, not_true_eq_false, not_false_eq_true, Nat.add_zero, Nat.zero_add, Nat.add_sub_cancel, ck_p, cko_si, cka_si, cko_sl, cka_sl, gi_e, gi_x, gl_e, gl_x, gr_si, gl_si, gi_sl, gr_sl, cko_c hm.k (show 3 ∈ [3] by decide), dr_c hm.r2, dr_c hm.r9, dr_c hm.r10, dr_c hm.r11, dr_c hm.r12, dr_c hm.r13, dr_c hm.r14, dr_c hm.r15, dr_c hm.r16, dr_c hm.r21, dr_c hm.r23, dr_c hm.r24, dr_c hm.r27, dr_c hm.r28, dr_c hm.r30, dr_c hm.r33, dr_c hm.r34, dr_c hm.r36, dr_c hm.r37, dr_c hm.r38, dr_c hm.r41, dr_c hm.r43, dr_c hm.r44, dr_c hm.r45, dr_c hm.r46, dr_c hm.r47, dr_c hm.r50, dr_c hm.r51, dr_c hm.r52, cka_i hm.k162 hm.l162, cka_i hm.k163 hm.l163, cka_i hm.k164 hm.l164, cka_i hm.k165 hm.l165, cka_i hm.k166 hm.l166, cka_i hm.k167 hm.l167, cka_i hm.k168 hm.l168, cka_i hm.k169 hm.l169, cka_i hm.k170 hm.l170, cka_i hm.k171 hm.l171, cka_i hm.k172 hm.l172, cka_i hm.k173 hm.l173, cka_i hm.k174 hm.l174, cka_i hm.k175 hm.l175, cka_i hm.k176 hm.l176, cka_i hm.k177 hm.l177, cka_i hm.k178 hm.l178, cka_i hm.k179 hm.l179, cka_i hm.k180 hm.l180, cka_i hm.k181 hm.l181, cka_i hm.k182 hm.l182, cka_i hm.k183 hm.l183, cka_i hm.k184 hm.l184, cka_i hm.k185 hm.l185, cka_i hm.k186 hm.l186, cka_i hm.k187 hm.l187, cka_i hm.k188 hm.l188, cka_i hm.k189 hm.l189, cka_i hm.k190 hm.l190])
  refine ok_bv (M_putsBy (M_thrown h _) g) ?_
  rintro σ1 ⟨q1, w1, F1⟩
  have hm1 := q1.ml
  (try simp (disch := omega) only [vl_s, bp_s, bd_s, bv_s, i32_nl, i32_n, i32_add, i32_sub, i32_mul, i32_neg, i32_ca, i32_cm, i32_cs, i32_cn, i32_le, i32_lt, i32_eq, i32_cl, Int.toNat_natCast, if_pos, if_neg, ite_true, ite_false, not_true_eq_false, not_false_eq_true, Nat.add_zero, Nat.zero_add, Nat.add_sub_cancel, ck_p, cko_si, cka_si, cko_sl, cka_sl, gi_e, gi_x, gl_e, gl_x, gr_si, gl_si, gi_sl, gr_sl, cko_c hm1.k (show 3 ∈ [3] by decide), dr_c hm1.r2, dr_c hm1.r9, dr_c hm1.r10, dr_c hm1.r11, dr_c hm1.r12, dr_c hm1.r13, dr_c hm1.r14, dr_c hm1.r15, dr_c hm1.r16, dr_c hm1.r21, dr_c hm1.r23, dr_c hm1.r24, dr_c hm1.r27, dr_c hm1.r28, dr_c hm1.r30, dr_c hm1.r33, dr_c hm1.r34, dr_c hm1.r36, dr_c hm1.r37, dr_c hm1.r38, dr_c hm1.r41, dr_c hm1.r43, dr_c hm1.r44, dr_c hm1.r45, dr_c hm1.r46, dr_c hm1.r47, dr_c hm1.r50, dr_c hm1.r51, dr_c hm1.r52, cka_i hm1.k162 hm1.l162, cka_i hm1.k163 hm1.l163, cka_i hm1.k164 hm1.l164, cka_i hm1.k165 hm1.l165, cka_i hm1.k166 hm1.l166, cka_i hm1.k167 hm1.l167, cka_i hm1.k168 hm1.l168, cka_i hm1.k169 hm1.l169, cka_i hm1.k170 hm1.l170, cka_i hm1.k171 hm1.l171, cka_i hm1.k172 hm1.l172, cka_i hm1.k173 hm1.l173, cka_i hm1.k174 hm1.l174, cka_i hm1.k175 hm1.l175, cka_i hm1.k176 hm1.l176, cka_i hm1.k177 hm1.l177, cka_i hm1.k178 hm1.l178, cka_i hm1.k179 hm1.l179, cka_i hm1.k180 hm1.l180, cka_i hm1.k181 hm1.l181, cka_i hm1.k182 hm1.l182, cka_i hm1.k183 hm1.l183, cka_i hm1.k184 hm1.l184, cka_i hm1.k185 hm1.l185, cka_i hm1.k186 hm1.l186, cka_i hm1.k187 hm1.l187, cka_i hm1.k188 hm1.l188, cka_i hm1.k189 hm1.l189, cka_i hm1.k190 hm1.l190])
  refine ok_bd (M_passes q1 g h1 h2 h3 h4 h5 h6) ?_
  rintro x σ2 ⟨rfl, q2, F2⟩
  have hm2 := q2.ml
  have pb := passA_b (M := S.mes.1) (m := m) (n := n) (aft := aft) g.now g.mes.1
  (try simp (disch := omega) only [vl_s, bp_s, bd_s, bv_s, i32_nl, i32_n, i32_add, i32_sub, i32_mul, i32_neg, i32_ca, i32_cm, i32_cs, i32_cn, i32_le, i32_lt, i32_eq, i32_cl, Int.toNat_natCast, if_pos, if_neg, ite_true, ite_false, not_true_eq_false, not_false_eq_true, Nat.add_zero, Nat.zero_add, Nat.add_sub_cancel, ck_p, cko_si, cka_si, cko_sl, cka_sl, gi_e, gi_x, gl_e, gl_x, gr_si, gl_si, gi_sl, gr_sl, cko_c hm2.k (show 3 ∈ [3] by decide), dr_c hm2.r2, dr_c hm2.r9, dr_c hm2.r10, dr_c hm2.r11, dr_c hm2.r12, dr_c hm2.r13, dr_c hm2.r14, dr_c hm2.r15, dr_c hm2.r16, dr_c hm2.r21, dr_c hm2.r23, dr_c hm2.r24, dr_c hm2.r27, dr_c hm2.r28, dr_c hm2.r30, dr_c hm2.r33, dr_c hm2.r34, dr_c hm2.r36, dr_c hm2.r37, dr_c hm2.r38, dr_c hm2.r41, dr_c hm2.r43, dr_c hm2.r44, dr_c hm2.r45, dr_c hm2.r46, dr_c hm2.r47, dr_c hm2.r50, dr_c hm2.r51, dr_c hm2.r52, cka_i hm2.k162 hm2.l162, cka_i hm2.k163 hm2.l163, cka_i hm2.k164 hm2.l164, cka_i hm2.k165 hm2.l165, cka_i hm2.k166 hm2.l166, cka_i hm2.k167 hm2.l167, cka_i hm2.k168 hm2.l168, cka_i hm2.k169 hm2.l169, cka_i hm2.k170 hm2.l170, cka_i hm2.k171 hm2.l171, cka_i hm2.k172 hm2.l172, cka_i hm2.k173 hm2.l173, cka_i hm2.k174 hm2.l174, cka_i hm2.k175 hm2.l175, cka_i hm2.k176 hm2.l176, cka_i hm2.k177 hm2.l177, cka_i hm2.k178 hm2.l178, cka_i hm2.k179 hm2.l179, cka_i hm2.k180 hm2.l180, cka_i hm2.k181 hm2.l181, cka_i hm2.k182 hm2.l182, cka_i hm2.k183 hm2.l183, cka_i hm2.k184 hm2.l184, cka_i hm2.k185 hm2.l185, cka_i hm2.k186 hm2.l186, cka_i hm2.k187 hm2.l187, cka_i hm2.k188 hm2.l188, cka_i hm2.k189 hm2.l189, cka_i hm2.k190 hm2.l190])
  refine ok_bd (M_counts q2 g.und g.now (w1.frt F2 (by have := q1.mn; omega) 5 (by decide) (fun _ => rfl)) (by omega) (by omega)) ?_
  rintro x σ3 ⟨rfl, q3, F3⟩
  rw [← hQ]
  refine ok_some ⟨rfl, ?_, ((FM_thrown.tr0 (F1.rsm (by decide))).tr0 (F2.rsm (by decide))).tr0 (F3.rsm (by decide))⟩
  by_cases c : 0 ≤ passA S.mes.1 S.now m n aft
  · rw [if_pos c, if_pos c] at q3
    rw [if_pos c]
    simp only [st_Shp_Shp, st_Shp_Rck, st_Shp_Mes, st_Shp_Now, st_Shp_Und, st_Shp_Txt, st_Shp_Rul, st_Shp_Sts, st_Shp_Pgs, st_Shp_Row, st_Rck_Shp, st_Rck_Rck, st_Rck_Mes, st_Rck_Now, st_Rck_Und, st_Rck_Txt, st_Rck_Rul, st_Rck_Sts, st_Rck_Pgs, st_Rck_Row, st_Mes_Shp, st_Mes_Rck, st_Mes_Mes, st_Mes_Now, st_Mes_Und, st_Mes_Txt, st_Mes_Rul, st_Mes_Sts, st_Mes_Pgs, st_Mes_Row, st_Now_Shp, st_Now_Rck, st_Now_Mes, st_Now_Now, st_Now_Und, st_Now_Txt, st_Now_Rul, st_Now_Sts, st_Now_Pgs, st_Now_Row, st_Und_Shp, st_Und_Rck, st_Und_Mes, st_Und_Now, st_Und_Und, st_Und_Txt, st_Und_Rul, st_Und_Sts, st_Und_Pgs, st_Und_Row, st_Txt_Shp, st_Txt_Rck, st_Txt_Mes, st_Txt_Now, st_Txt_Und, st_Txt_Txt, st_Txt_Rul, st_Txt_Sts, st_Txt_Pgs, st_Txt_Row, st_Rul_Shp, st_Rul_Rck, st_Rul_Mes, st_Rul_Now, st_Rul_Und, st_Rul_Txt, st_Rul_Rul, st_Rul_Sts, st_Rul_Pgs, st_Rul_Row, st_Sts_Shp, st_Sts_Rck, st_Sts_Mes, st_Sts_Now, st_Sts_Und, st_Sts_Txt, st_Sts_Rul, st_Sts_Sts, st_Sts_Pgs, st_Sts_Row, st_Pgs_Shp, st_Pgs_Rck, st_Pgs_Mes, st_Pgs_Now, st_Pgs_Und, st_Pgs_Txt, st_Pgs_Rul, st_Pgs_Sts, st_Pgs_Pgs, st_Pgs_Row, st_Row_Shp, st_Row_Rck, st_Row_Mes, st_Row_Now, st_Row_Und, st_Row_Txt, st_Row_Rul, st_Row_Sts, st_Row_Pgs, st_Row_Row, st_r0_Shp, st_rA_Shp, st_r0_Rck, st_rA_Rck, st_r0_Mes, st_rA_Mes, st_r0_Now, st_rA_Now, st_r0_Und, st_rA_Und, st_r0_Txt, st_rA_Txt, st_r0_Rul, st_rA_Rul, st_r0_Sts, st_rA_Sts, st_r0_Pgs, st_rA_Pgs, st_r0_Row, st_rA_Row, sw_r0_Shp, sw_rA_Shp, sw_Shp_Shp, sw_r0_Rck, sw_rA_Rck, sw_Rck_Rck, sw_Rck_Shp, sw_r0_Mes, sw_rA_Mes, sw_Mes_Mes, sw_Mes_Shp, sw_Mes_Rck, sw_r0_Now, sw_rA_Now, sw_Now_Now, sw_Now_Shp, sw_Now_Rck, sw_Now_Mes, sw_r0_Und, sw_rA_Und, sw_Und_Und, sw_Und_Shp, sw_Und_Rck, sw_Und_Mes, sw_Und_Now, sw_r0_Txt, sw_rA_Txt, sw_Txt_Txt, sw_Txt_Shp, sw_Txt_Rck, sw_Txt_Mes, sw_Txt_Now, sw_Txt_Und, sw_r0_Rul, sw_rA_Rul, sw_Rul_Rul, sw_Rul_Shp, sw_Rul_Rck, sw_Rul_Mes, sw_Rul_Now, sw_Rul_Und, sw_Rul_Txt, sw_r0_Sts, sw_rA_Sts, sw_Sts_Sts, sw_Sts_Shp, sw_Sts_Rck, sw_Sts_Mes, sw_Sts_Now, sw_Sts_Und, sw_Sts_Txt, sw_Sts_Rul, sw_r0_Pgs, sw_rA_Pgs, sw_Pgs_Pgs, sw_Pgs_Shp, sw_Pgs_Rck, sw_Pgs_Mes, sw_Pgs_Now, sw_Pgs_Und, sw_Pgs_Txt, sw_Pgs_Rul, sw_Pgs_Sts] at q3
    exact q3
  · rw [if_neg c, if_neg c] at q3
    rw [if_neg c]
    exact q3
/-- the last watch that can come back -/
def aUndo (S : St) : Int := if S.und.length = 0 then -1 else (S.und.length - 1 : Nat)
def nUndo (S : St) : St := match S.und.getLast? with
  | none => S
  | some W => (S.wNow W).wUnd S.und.dropLast
theorem M_undo {S : St} {σ : vMem} {B : Int} (h : RM S σ) (g : gSt B S) : ok (f_X3_undo σ 161) (fun r => r.1 = i32 (aUndo S) ∧ RM (nUndo S) r.2 ∧ FM σ r.2) := by
  have hm := h.ml
  have hn := h.mn
  have hU := h.und.1
  have g15 := g.und.1
  generalize hQ : (fun r : Int32 × vMem => r.1 = i32 (aUndo S) ∧ RM (nUndo S) r.2 ∧ FM σ r.2) = Q
  unfold f_X3_undo
  by_cases c : S.und.length = 0
  · (try simp (disch := omega) only [vl_s, bp_s, bd_s, bv_s, i32_nl, i32_n, i32_add, i32_sub, i32_mul, i32_neg, i32_ca, i32_cm, i32_cs, i32_cn, i32_le, i32_lt, i32_eq, i32_cl, Int.toNat_natCast, if_pos, if_neg, ite_true, ite_false, not_true_eq_false, not_false_eq_true, Nat.add_zero, Nat.zero_add, Nat.add_sub_cancel, ck_p, cko_si, cka_si, cko_sl, cka_sl, gi_e, gi_x, gl_e, gl_x, gr_si, gl_si, gi_sl, gr_sl, cko_c hm.k (show 3 ∈ [3] by decide), dr_c hm.r2, dr_c hm.r9, dr_c hm.r10, dr_c hm.r11, dr_c hm.r12, dr_c hm.r13, dr_c hm.r14, dr_c hm.r15, dr_c hm.r16, dr_c hm.r21, dr_c hm.r23, dr_c hm.r24, dr_c hm.r27, dr_c hm.r28, dr_c hm.r30, dr_c hm.r33, dr_c hm.r34, dr_c hm.r36, dr_c hm.r37, dr_c hm.r38, dr_c hm.r41, dr_c hm.r43, dr_c hm.r44, dr_c hm.r45, dr_c hm.r46, dr_c hm.r47, dr_c hm.r50, dr_c hm.r51, dr_c hm.r52, cka_i hm.k162 hm.l162, cka_i hm.k163 hm.l163, cka_i hm.k164 hm.l164, cka_i hm.k165 hm.l165, cka_i hm.k166 hm.l166, cka_i hm.k167 hm.l167, cka_i hm.k168 hm.l168, cka_i hm.k169 hm.l169, cka_i hm.k170 hm.l170, cka_i hm.k171 hm.l171, cka_i hm.k172 hm.l172, cka_i hm.k173 hm.l173, cka_i hm.k174 hm.l174, cka_i hm.k175 hm.l175, cka_i hm.k176 hm.l176, cka_i hm.k177 hm.l177, cka_i hm.k178 hm.l178, cka_i hm.k179 hm.l179, cka_i hm.k180 hm.l180, cka_i hm.k181 hm.l181, cka_i hm.k182 hm.l182, cka_i hm.k183 hm.l183, cka_i hm.k184 hm.l184, cka_i hm.k185 hm.l185, cka_i hm.k186 hm.l186, cka_i hm.k187 hm.l187, cka_i hm.k188 hm.l188, cka_i hm.k189 hm.l189, cka_i hm.k190 hm.l190, hU])
    have e1 : S.und = [] := List.length_eq_zero_iff.mp c
    rw [← hQ]
    unfold aUndo nUndo
    rw [if_pos c, e1]
    exact ok_some ⟨rfl, M_thrown h _, FM_thrown⟩
  · obtain ⟨u, W, hu⟩ : ∃ u W, S.und = u ++ [W] := ⟨S.und.dropLast, S.und.getLast (fun q => c (by rw [q]; rfl)), (List.dropLast_concat_getLast _).symm⟩
    have hl : S.und.length = u.length + 1 := by rw [hu, List.length_append]; rfl
    (try simp (disch := omega) only [vl_s, bp_s, bd_s, bv_s, i32_nl, i32_n, i32_add, i32_sub, i32_mul, i32_neg, i32_ca, i32_cm, i32_cs, i32_cn, i32_le, i32_lt, i32_eq, i32_cl, Int.toNat_natCast, if_pos, if_neg, ite_true, ite_false, not_true_eq_false, not_false_eq_true, Nat.add_zero, Nat.zero_add, Nat.add_sub_cancel, ck_p, cko_si, cka_si, cko_sl, cka_sl, gi_e, gi_x, gl_e, gl_x, gr_si, gl_si, gi_sl, gr_sl, cko_c hm.k (show 3 ∈ [3] by decide), dr_c hm.r2, dr_c hm.r9, dr_c hm.r10, dr_c hm.r11, dr_c hm.r12, dr_c hm.r13, dr_c hm.r14, dr_c hm.r15, dr_c hm.r16, dr_c hm.r21, dr_c hm.r23, dr_c hm.r24, dr_c hm.r27, dr_c hm.r28, dr_c hm.r30, dr_c hm.r33, dr_c hm.r34, dr_c hm.r36, dr_c hm.r37, dr_c hm.r38, dr_c hm.r41, dr_c hm.r43, dr_c hm.r44, dr_c hm.r45, dr_c hm.r46, dr_c hm.r47, dr_c hm.r50, dr_c hm.r51, dr_c hm.r52, cka_i hm.k162 hm.l162, cka_i hm.k163 hm.l163, cka_i hm.k164 hm.l164, cka_i hm.k165 hm.l165, cka_i hm.k166 hm.l166, cka_i hm.k167 hm.l167, cka_i hm.k168 hm.l168, cka_i hm.k169 hm.l169, cka_i hm.k170 hm.l170, cka_i hm.k171 hm.l171, cka_i hm.k172 hm.l172, cka_i hm.k173 hm.l173, cka_i hm.k174 hm.l174, cka_i hm.k175 hm.l175, cka_i hm.k176 hm.l176, cka_i hm.k177 hm.l177, cka_i hm.k178 hm.l178, cka_i hm.k179 hm.l179, cka_i hm.k180 hm.l180, cka_i hm.k181 hm.l181, cka_i hm.k182 hm.l182, cka_i hm.k183 hm.l183, cka_i hm.k184 hm.l184, cka_i hm.k185 hm.l185, cka_i hm.k186 hm.l186, cka_i hm.k187 hm.l187, cka_i hm.k188 hm.l188, cka_i hm.k189 hm.l189, cka_i hm.k190 hm.l190, hU])
    rw [hl, Nat.add_sub_cancel]
    have q1 := M_thrown h (i32 ((0 : Nat) : Int))
    refine X3_undo26 (U := u.length) (by exact hm) (by exact hn) (gi_e ⟨rfl, rfl⟩) (by omega) (fun σ1 F hc => ?_)
    have FM1 : Fr (KM [0, 4, 5]) 0 0 σ σ1 := ((Fr.rf.wm 0 rfl (by decide)).wm 5 rfl (by decide)).tr0 (F.mono (fun b j q e => q (by rw [e.1, show reg 168 j = 4 from rfl]; decide)))
    have hm1 := (ML.fr h.lay FM1 (by decide)).1
    have e29 : gi σ1 161 29 = i32 u.length := (F.i (k := 29) (by show 161 < mn σ; omega) (fun q => by omega)).trans (gi_e ⟨rfl, rfl⟩)
    (try simp (disch := omega) only [vl_s, bp_s, bd_s, bv_s, i32_nl, i32_n, i32_add, i32_sub, i32_mul, i32_neg, i32_ca, i32_cm, i32_cs, i32_cn, i32_le, i32_lt, i32_eq, i32_cl, Int.toNat_natCast, if_pos, if_neg, ite_true, ite_false, not_true_eq_false, not_false_eq_true, Nat.add_zero, Nat.zero_add, Nat.add_sub_cancel, ck_p, cko_si, cka_si, cko_sl, cka_sl, gi_e, gi_x, gl_e, gl_x, gr_si, gl_si, gi_sl, gr_sl, cko_c hm1.k (show 3 ∈ [3] by decide), dr_c hm1.r2, dr_c hm1.r9, dr_c hm1.r10, dr_c hm1.r11, dr_c hm1.r12, dr_c hm1.r13, dr_c hm1.r14, dr_c hm1.r15, dr_c hm1.r16, dr_c hm1.r21, dr_c hm1.r23, dr_c hm1.r24, dr_c hm1.r27, dr_c hm1.r28, dr_c hm1.r30, dr_c hm1.r33, dr_c hm1.r34, dr_c hm1.r36, dr_c hm1.r37, dr_c hm1.r38, dr_c hm1.r41, dr_c hm1.r43, dr_c hm1.r44, dr_c hm1.r45, dr_c hm1.r46, dr_c hm1.r47, dr_c hm1.r50, dr_c hm1.r51, dr_c hm1.r52, cka_i hm1.k162 hm1.l162, cka_i hm1.k163 hm1.l163, cka_i hm1.k164 hm1.l164, cka_i hm1.k165 hm1.l165, cka_i hm1.k166 hm1.l166, cka_i hm1.k167 hm1.l167, cka_i hm1.k168 hm1.l168, cka_i hm1.k169 hm1.l169, cka_i hm1.k170 hm1.l170, cka_i hm1.k171 hm1.l171, cka_i hm1.k172 hm1.l172, cka_i hm1.k173 hm1.l173, cka_i hm1.k174 hm1.l174, cka_i hm1.k175 hm1.l175, cka_i hm1.k176 hm1.l176, cka_i hm1.k177 hm1.l177, cka_i hm1.k178 hm1.l178, cka_i hm1.k179 hm1.l179, cka_i hm1.k180 hm1.l180, cka_i hm1.k181 hm1.l181, cka_i hm1.k182 hm1.l182, cka_i hm1.k183 hm1.l183, cka_i hm1.k184 hm1.l184, cka_i hm1.k185 hm1.l185, cka_i hm1.k186 hm1.l186, cka_i hm1.k187 hm1.l187, cka_i hm1.k188 hm1.l188, cka_i hm1.k189 hm1.l189, cka_i hm1.k190 hm1.l190, e29])
    rw [← hQ]
    have hgl : S.und.getLast? = some W := by rw [hu]; simp
    have hdl : S.und.dropLast = u := by rw [hu]; simp
    have hWu : S.und[u.length]? = some W := by rw [hu, List.getElem?_append_right (Nat.le_refl _)]; simp
    have gWl := (g.und.2 W (List.mem_of_getElem? hWu)).len
    refine ok_some ⟨?_, ?_, FM1.rsm (by decide)⟩
    · unfold aUndo
      rw [if_neg c, hl]; rfl
    · unfold nUndo
      rw [hgl]
      show RM ((S.wNow W).wUnd S.und.dropLast) σ1
      rw [hdl]
      have hrow : RowIs W (gi σ1 168) := by
        refine RowIs.eq (h.und.2 u.length W hWu) gWl (fun j hj => ?_)
        have := hc j hj
        rw [Nat.zero_add] at this
        rw [this]
        simp (disch := omega) only [cko_si, cka_si, cko_sl, cka_sl, gi_e, gi_x, gl_e, gl_x, gr_si, gl_si, gi_sl, gr_sl]
      have hund : mUnd u σ1 := by
        refine ⟨e29, fun k V hk => ?_⟩
        have hk2 : S.und[k]? = some V := by rw [hu, List.getElem?_append_left (List.getElem?_eq_some_iff.mp hk).1]; exact hk
        refine RowIs.eq (h.und.2 k V hk2) (g.und.2 V (List.mem_of_getElem? hk2)).len (fun j hj => ?_)
        rw [F.i (by show 176 < mn σ; omega) (fun q => by omega)]
        simp (disch := omega) only [cko_si, cka_si, cko_sl, cka_sl, gi_e, gi_x, gl_e, gl_x, gr_si, gl_si, gi_sl, gr_sl]
      exact ⟨ML.fr h.1 FM1 (by decide), h.shp.fr FM1 hn (by decide), h.rck.fr FM1 hn (by decide), h.mes.fr FM1 hn (by decide), hrow, hund, h.txt.fr FM1 hn (by decide), h.row.fr FM1 hn (by decide), h.rul.fr FM1 hn (by decide), h.sts.fr FM1 hn (by decide), h.pgs.fr FM1 hn (by decide)⟩
