/-! THE MODEL'S ACTS: posts -/
set_option maxRecDepth 100000
def bin64 (k : Nat) : Nat → Int64
  | 0 => 1
  | i + 1 => bin64 k i * Int32.toInt64 (i32 (k - i : Nat)) / Int32.toInt64 (i32 (i + 1 : Nat))
def mul64 (p : Int) (j : Nat) (v : Int64) : Nat → Int64
  | 0 => v
  | i + 1 => mul64 p j v i * (if i < j then Int32.toInt64 (i32 p) else Int32.toInt64 (i32 (10 - p)))
def betsU (k : Nat) (p : Int) : Nat → Int64
  | 0 => 0
  | j + 1 => betsU k p j + mul64 p j (bin64 k j) k
theorem t64_ck {α : Type} {z : Int} {t : Option α} (h1 : -2147483648 ≤ z) (h2 : z < 2147483648) (h : z ≠ 0) : ck (¬ Int32.toInt64 (i32 z) = 0) t = t := if_pos (fun q => h (by
  have := i32_64 h1 h2
  rw [q] at this
  exact this.symm))
theorem X3_bets50 {σ : vMem} {k j : Nat} {p : Int} {v3 : Int32} {K : Int64 → Option vMem} {Q : vMem → Prop} (hk : k ≤ 15) (hj : j ≤ k) (hv : v3 = i32 j) (hK : ok (K (bin64 k j)) Q) : ok (f_X3_bets_50 161 (i32 k) (i32 p) σ v3 K FU 1 (i32 ((0 : Nat) : Int))) Q := by
  subst hv
  refine loop2 (F := f_X3_bets_50 161 (i32 k) (i32 p) σ (i32 j) K) j (fun i v x => x = i32 i ∧ v = bin64 k i) ?_ FU 0 _ _ (by omega) ⟨rfl, rfl⟩ (by unfold FU; omega)
  rintro n i v x hi ⟨rfl, rfl⟩ IH
  rw [f_X3_bets_50.eq_2]
  by_cases c : i < j
  · (try simp (disch := omega) only [vl_s, bp_s, bd_s, bv_s, i32_nl, i32_n, i32_add, i32_sub, i32_mul, i32_neg, i32_ca, i32_cm, i32_cs, i32_cn, i32_le, i32_lt, i32_eq, i32_cl, Int.toNat_natCast, if_pos, if_neg, ite_true, ite_false, not_true_eq_false, not_false_eq_true, Nat.add_zero, Nat.zero_add, Nat.add_sub_cancel, ck_p, cko_si, cka_si, cko_sl, cka_sl, gi_e, gi_x, gl_e, gl_x, gr_si, gl_si, gi_sl, gr_sl, t64_ck])
    exact IH c _ _ ⟨rfl, rfl⟩
  · have : i = j := by omega
    subst this
    (try simp (disch := omega) only [vl_s, bp_s, bd_s, bv_s, i32_nl, i32_n, i32_add, i32_sub, i32_mul, i32_neg, i32_ca, i32_cm, i32_cs, i32_cn, i32_le, i32_lt, i32_eq, i32_cl, Int.toNat_natCast, if_pos, if_neg, ite_true, ite_false, not_true_eq_false, not_false_eq_true, Nat.add_zero, Nat.zero_add, Nat.add_sub_cancel, ck_p, cko_si, cka_si, cko_sl, cka_sl, gi_e, gi_x, gl_e, gl_x, gr_si, gl_si, gi_sl, gr_sl])
    exact hK
theorem X3_bets81 {σ : vMem} {k j : Nat} {p : Int} {v : Int64} {v3 : Int32} {K : Int64 → Option vMem} {Q : vMem → Prop} (hk : k ≤ 15) (hj : j ≤ k) (hv : v3 = i32 j) (hK : ok (K (mul64 p j v k)) Q) : ok (f_X3_bets_81 161 (i32 k) (i32 p) σ v3 K FU v (i32 ((0 : Nat) : Int))) Q := by
  subst hv
  refine loop2 (F := f_X3_bets_81 161 (i32 k) (i32 p) σ (i32 j) K) k (fun i w x => x = i32 i ∧ w = mul64 p j v i) ?_ FU 0 _ _ (by omega) ⟨rfl, rfl⟩ (by unfold FU; omega)
  rintro n i w x hi ⟨rfl, rfl⟩ IH
  have e1 : (10 : Int32) - i32 p = i32 (10 - p) := i32_sub 10 p
  rw [f_X3_bets_81.eq_2]
  by_cases c : i < k
  · rw [e1]
    by_cases c2 : i < j
    · (try simp (disch := omega) only [vl_s, bp_s, bd_s, bv_s, i32_nl, i32_n, i32_add, i32_sub, i32_mul, i32_neg, i32_ca, i32_cm, i32_cs, i32_cn, i32_le, i32_lt, i32_eq, i32_cl, Int.toNat_natCast, if_pos, if_neg, ite_true, ite_false, not_true_eq_false, not_false_eq_true, Nat.add_zero, Nat.zero_add, Nat.add_sub_cancel, ck_p, cko_si, cka_si, cko_sl, cka_sl, gi_e, gi_x, gl_e, gl_x, gr_si, gl_si, gi_sl, gr_sl])
      exact IH c _ _ ⟨rfl, by show _ = mul64 p j v i * _; rw [if_pos c2]⟩
    · (try simp (disch := omega) only [vl_s, bp_s, bd_s, bv_s, i32_nl, i32_n, i32_add, i32_sub, i32_mul, i32_neg, i32_ca, i32_cm, i32_cs, i32_cn, i32_le, i32_lt, i32_eq, i32_cl, Int.toNat_natCast, if_pos, if_neg, ite_true, ite_false, not_true_eq_false, not_false_eq_true, Nat.add_zero, Nat.zero_add, Nat.add_sub_cancel, ck_p, cko_si, cka_si, cko_sl, cka_sl, gi_e, gi_x, gl_e, gl_x, gr_si, gl_si, gi_sl, gr_sl])
      exact IH c _ _ ⟨rfl, by show _ = mul64 p j v i * _; rw [if_neg c2]⟩
  · have : i = k := by omega
    subst this
    (try simp (disch := omega) only [vl_s, bp_s, bd_s, bv_s, i32_nl, i32_n, i32_add, i32_sub, i32_mul, i32_neg, i32_ca, i32_cm, i32_cs, i32_cn, i32_le, i32_lt, i32_eq, i32_cl, Int.toNat_natCast, if_pos, if_neg, ite_true, ite_false, not_true_eq_false, not_false_eq_true, Nat.add_zero, Nat.zero_add, Nat.add_sub_cancel, ck_p, cko_si, cka_si, cko_sl, cka_sl, gi_e, gi_x, gl_e, gl_x, gr_si, gl_si, gi_sl, gr_sl])
    exact hK
theorem M_bets {S : St} {σ : vMem} {k j : Nat} (h : RM S σ) (hk : k ≤ 15) (hj : j ≤ 10) : ok (f_X3_bets σ 161 (i32 k) (i32 j)) (fun σ' => RM S σ' ∧ Fr (KM [0]) 0 0 σ σ' ∧ gl σ' 161 39 = betsU k j ((k + 1) / 2) ∧ gl σ' 161 40 = p64 10 k) := by
  have hm := h.ml
  unfold f_X3_bets
  (try simp (disch := omega) only [vl_s, bp_s, bd_s, bv_s, i32_nl, i32_n, i32_add, i32_sub, i32_mul, i32_neg, i32_ca, i32_cm, i32_cs, i32_cn, i32_le, i32_lt, i32_eq, i32_cl, Int.toNat_natCast, if_pos, if_neg, ite_true, ite_false, not_true_eq_false, not_false_eq_true, Nat.add_zero, Nat.zero_add, Nat.add_sub_cancel, ck_p, cko_si, cka_si, cko_sl, cka_sl, gi_e, gi_x, gl_e, gl_x, gr_si, gl_si, gi_sl, gr_sl, cko_c hm.k (show 3 ∈ [3] by decide), dr_c hm.r2, dr_c hm.r9, dr_c hm.r10, dr_c hm.r11, dr_c hm.r12, dr_c hm.r13, dr_c hm.r14, dr_c hm.r15, dr_c hm.r16, dr_c hm.r21, dr_c hm.r23, dr_c hm.r24, dr_c hm.r27, dr_c hm.r28, dr_c hm.r30, dr_c hm.r33, dr_c hm.r34, dr_c hm.r36, dr_c hm.r37, dr_c hm.r38, dr_c hm.r41, dr_c hm.r43, dr_c hm.r44, dr_c hm.r45, dr_c hm.r46, dr_c hm.r47, dr_c hm.r50, dr_c hm.r51, dr_c hm.r52, cka_i hm.k162 hm.l162, cka_i hm.k163 hm.l163, cka_i hm.k164 hm.l164, cka_i hm.k165 hm.l165, cka_i hm.k166 hm.l166, cka_i hm.k167 hm.l167, cka_i hm.k168 hm.l168, cka_i hm.k169 hm.l169, cka_i hm.k170 hm.l170, cka_i hm.k171 hm.l171, cka_i hm.k172 hm.l172, cka_i hm.k173 hm.l173, cka_i hm.k174 hm.l174, cka_i hm.k175 hm.l175, cka_i hm.k176 hm.l176, cka_i hm.k177 hm.l177, cka_i hm.k178 hm.l178, cka_i hm.k179 hm.l179, cka_i hm.k180 hm.l180, cka_i hm.k181 hm.l181, cka_i hm.k182 hm.l182, cka_i hm.k183 hm.l183, cka_i hm.k184 hm.l184, cka_i hm.k185 hm.l185, cka_i hm.k186 hm.l186, cka_i hm.k187 hm.l187, cka_i hm.k188 hm.l188, cka_i hm.k189 hm.l189, cka_i hm.k190 hm.l190])
  have F0 : Fr (KM [0]) 0 0 σ (sl (sl σ 161 39 0) 161 40 1) := (Fr.rf.wml 0 rfl (by decide)).wml 0 rfl (by decide)
  refine loop2 (F := f_X3_bets_12 161 (i32 k) (i32 j) _) k (fun i σ1 x => x = i32 i ∧ ML σ1 ∧ Fr (KM [0]) 0 0 σ σ1 ∧ gl σ1 161 39 = 0 ∧ gl σ1 161 40 = p64 10 i) ?_ FU 0 _ _ (by omega) ⟨rfl, hm, F0, rfl, rfl⟩ (by unfold FU; omega)
  rintro n i σ1 x hi ⟨rfl, hm1, F1, e39, e40⟩ IH
  rw [f_X3_bets_12.eq_2]
  by_cases c : i < k
  · (try simp (disch := omega) only [vl_s, bp_s, bd_s, bv_s, i32_nl, i32_n, i32_add, i32_sub, i32_mul, i32_neg, i32_ca, i32_cm, i32_cs, i32_cn, i32_le, i32_lt, i32_eq, i32_cl, Int.toNat_natCast, if_pos, if_neg, ite_true, ite_false, not_true_eq_false, not_false_eq_true, Nat.add_zero, Nat.zero_add, Nat.add_sub_cancel, ck_p, cko_si, cka_si, cko_sl, cka_sl, gi_e, gi_x, gl_e, gl_x, gr_si, gl_si, gi_sl, gr_sl, cko_c hm1.k (show 3 ∈ [3] by decide), dr_c hm1.r2, dr_c hm1.r9, dr_c hm1.r10, dr_c hm1.r11, dr_c hm1.r12, dr_c hm1.r13, dr_c hm1.r14, dr_c hm1.r15, dr_c hm1.r16, dr_c hm1.r21, dr_c hm1.r23, dr_c hm1.r24, dr_c hm1.r27, dr_c hm1.r28, dr_c hm1.r30, dr_c hm1.r33, dr_c hm1.r34, dr_c hm1.r36, dr_c hm1.r37, dr_c hm1.r38, dr_c hm1.r41, dr_c hm1.r43, dr_c hm1.r44, dr_c hm1.r45, dr_c hm1.r46, dr_c hm1.r47, dr_c hm1.r50, dr_c hm1.r51, dr_c hm1.r52, cka_i hm1.k162 hm1.l162, cka_i hm1.k163 hm1.l163, cka_i hm1.k164 hm1.l164, cka_i hm1.k165 hm1.l165, cka_i hm1.k166 hm1.l166, cka_i hm1.k167 hm1.l167, cka_i hm1.k168 hm1.l168, cka_i hm1.k169 hm1.l169, cka_i hm1.k170 hm1.l170, cka_i hm1.k171 hm1.l171, cka_i hm1.k172 hm1.l172, cka_i hm1.k173 hm1.l173, cka_i hm1.k174 hm1.l174, cka_i hm1.k175 hm1.l175, cka_i hm1.k176 hm1.l176, cka_i hm1.k177 hm1.l177, cka_i hm1.k178 hm1.l178, cka_i hm1.k179 hm1.l179, cka_i hm1.k180 hm1.l180, cka_i hm1.k181 hm1.l181, cka_i hm1.k182 hm1.l182, cka_i hm1.k183 hm1.l183, cka_i hm1.k184 hm1.l184, cka_i hm1.k185 hm1.l185, cka_i hm1.k186 hm1.l186, cka_i hm1.k187 hm1.l187, cka_i hm1.k188 hm1.l188, cka_i hm1.k189 hm1.l189, cka_i hm1.k190 hm1.l190, e40])
    exact IH c _ _ ⟨rfl, hm1, F1.wml 0 rfl (by decide), by rw [gl_x (by omega)]; exact e39, gl_e ⟨rfl, rfl⟩⟩
  · have : i = k := by omega
    subst this
    (try simp (disch := omega) only [vl_s, bp_s, bd_s, bv_s, i32_nl, i32_n, i32_add, i32_sub, i32_mul, i32_neg, i32_ca, i32_cm, i32_cs, i32_cn, i32_le, i32_lt, i32_eq, i32_cl, Int.toNat_natCast, if_pos, if_neg, ite_true, ite_false, not_true_eq_false, not_false_eq_true, Nat.add_zero, Nat.zero_add, Nat.add_sub_cancel, ck_p, cko_si, cka_si, cko_sl, cka_sl, gi_e, gi_x, gl_e, gl_x, gr_si, gl_si, gi_sl, gr_sl])
    refine loop2 (F := f_X3_bets_37 161 (i32 i) (i32 j)) ((i + 1) / 2) (fun m σ2 x => x = i32 m ∧ ML σ2 ∧ Fr (KM [0]) 0 0 σ σ2 ∧ gl σ2 161 39 = betsU i j m ∧ gl σ2 161 40 = p64 10 i) ?_ FU 0 _ _ (by omega) ⟨rfl, hm1, F1, e39, e40⟩ (by unfold FU; omega)
    rintro n2 m σ2 x hm2 ⟨rfl, hmB, F2, d39, d40⟩ IH2
    rw [f_X3_bets_37.eq_2]
    by_cases c2 : m < (i + 1) / 2
    · (try simp (disch := omega) only [vl_s, bp_s, bd_s, bv_s, i32_nl, i32_n, i32_add, i32_sub, i32_mul, i32_neg, i32_ca, i32_cm, i32_cs, i32_cn, i32_le, i32_lt, i32_eq, i32_cl, Int.toNat_natCast, if_pos, if_neg, ite_true, ite_false, not_true_eq_false, not_false_eq_true, Nat.add_zero, Nat.zero_add, Nat.add_sub_cancel, ck_p, cko_si, cka_si, cko_sl, cka_sl, gi_e, gi_x, gl_e, gl_x, gr_si, gl_si, gi_sl, gr_sl, cko_c hmB.k (show 3 ∈ [3] by decide), dr_c hmB.r2, dr_c hmB.r9, dr_c hmB.r10, dr_c hmB.r11, dr_c hmB.r12, dr_c hmB.r13, dr_c hmB.r14, dr_c hmB.r15, dr_c hmB.r16, dr_c hmB.r21, dr_c hmB.r23, dr_c hmB.r24, dr_c hmB.r27, dr_c hmB.r28, dr_c hmB.r30, dr_c hmB.r33, dr_c hmB.r34, dr_c hmB.r36, dr_c hmB.r37, dr_c hmB.r38, dr_c hmB.r41, dr_c hmB.r43, dr_c hmB.r44, dr_c hmB.r45, dr_c hmB.r46, dr_c hmB.r47, dr_c hmB.r50, dr_c hmB.r51, dr_c hmB.r52, cka_i hmB.k162 hmB.l162, cka_i hmB.k163 hmB.l163, cka_i hmB.k164 hmB.l164, cka_i hmB.k165 hmB.l165, cka_i hmB.k166 hmB.l166, cka_i hmB.k167 hmB.l167, cka_i hmB.k168 hmB.l168, cka_i hmB.k169 hmB.l169, cka_i hmB.k170 hmB.l170, cka_i hmB.k171 hmB.l171, cka_i hmB.k172 hmB.l172, cka_i hmB.k173 hmB.l173, cka_i hmB.k174 hmB.l174, cka_i hmB.k175 hmB.l175, cka_i hmB.k176 hmB.l176, cka_i hmB.k177 hmB.l177, cka_i hmB.k178 hmB.l178, cka_i hmB.k179 hmB.l179, cka_i hmB.k180 hmB.l180, cka_i hmB.k181 hmB.l181, cka_i hmB.k182 hmB.l182, cka_i hmB.k183 hmB.l183, cka_i hmB.k184 hmB.l184, cka_i hmB.k185 hmB.l185, cka_i hmB.k186 hmB.l186, cka_i hmB.k187 hmB.l187, cka_i hmB.k188 hmB.l188, cka_i hmB.k189 hmB.l189, cka_i hmB.k190 hmB.l190])
      refine X3_bets50 (by omega) (by omega) rfl ?_
      refine X3_bets81 (by omega) (by omega) rfl ?_
      (try simp (disch := omega) only [vl_s, bp_s, bd_s, bv_s, i32_nl, i32_n, i32_add, i32_sub, i32_mul, i32_neg, i32_ca, i32_cm, i32_cs, i32_cn, i32_le, i32_lt, i32_eq, i32_cl, Int.toNat_natCast, if_pos, if_neg, ite_true, ite_false, not_true_eq_false, not_false_eq_true, Nat.add_zero, Nat.zero_add, Nat.add_sub_cancel, ck_p, cko_si, cka_si, cko_sl, cka_sl, gi_e, gi_x, gl_e, gl_x, gr_si, gl_si, gi_sl, gr_sl, cko_c hmB.k (show 3 ∈ [3] by decide), dr_c hmB.r2, dr_c hmB.r9, dr_c hmB.r10, dr_c hmB.r11, dr_c hmB.r12, dr_c hmB.r13, dr_c hmB.r14, dr_c hmB.r15, dr_c hmB.r16, dr_c hmB.r21, dr_c hmB.r23, dr_c hmB.r24, dr_c hmB.r27, dr_c hmB.r28, dr_c hmB.r30, dr_c hmB.r33, dr_c hmB.r34, dr_c hmB.r36, dr_c hmB.r37, dr_c hmB.r38, dr_c hmB.r41, dr_c hmB.r43, dr_c hmB.r44, dr_c hmB.r45, dr_c hmB.r46, dr_c hmB.r47, dr_c hmB.r50, dr_c hmB.r51, dr_c hmB.r52, cka_i hmB.k162 hmB.l162, cka_i hmB.k163 hmB.l163, cka_i hmB.k164 hmB.l164, cka_i hmB.k165 hmB.l165, cka_i hmB.k166 hmB.l166, cka_i hmB.k167 hmB.l167, cka_i hmB.k168 hmB.l168, cka_i hmB.k169 hmB.l169, cka_i hmB.k170 hmB.l170, cka_i hmB.k171 hmB.l171, cka_i hmB.k172 hmB.l172, cka_i hmB.k173 hmB.l173, cka_i hmB.k174 hmB.l174, cka_i hmB.k175 hmB.l175, cka_i hmB.k176 hmB.l176, cka_i hmB.k177 hmB.l177, cka_i hmB.k178 hmB.l178, cka_i hmB.k179 hmB.l179, cka_i hmB.k180 hmB.l180, cka_i hmB.k181 hmB.l181, cka_i hmB.k182 hmB.l182, cka_i hmB.k183 hmB.l183, cka_i hmB.k184 hmB.l184, cka_i hmB.k185 hmB.l185, cka_i hmB.k186 hmB.l186, cka_i hmB.k187 hmB.l187, cka_i hmB.k188 hmB.l188, cka_i hmB.k189 hmB.l189, cka_i hmB.k190 hmB.l190, d39])
      exact IH2 c2 _ _ ⟨rfl, hmB, F2.wml 0 rfl (by decide), gl_e ⟨rfl, rfl⟩, by rw [gl_x (by omega)]; exact d40⟩
    · have : m = (i + 1) / 2 := by omega
      subst this
      (try simp (disch := omega) only [vl_s, bp_s, bd_s, bv_s, i32_nl, i32_n, i32_add, i32_sub, i32_mul, i32_neg, i32_ca, i32_cm, i32_cs, i32_cn, i32_le, i32_lt, i32_eq, i32_cl, Int.toNat_natCast, if_pos, if_neg, ite_true, ite_false, not_true_eq_false, not_false_eq_true, Nat.add_zero, Nat.zero_add, Nat.add_sub_cancel, ck_p, cko_si, cka_si, cko_sl, cka_sl, gi_e, gi_x, gl_e, gl_x, gr_si, gl_si, gi_sl, gr_sl])
      exact ok_some ⟨h.u0 F2, F2, d39, d40⟩
theorem bets_ok : ∀ k, k ≤ 15 → ∀ p : Nat, p ≤ 10 → fracOk (betsU k p ((k + 1) / 2)) (p64 10 k) := by
  unfold fracOk
  decide +kernel
def aWord (k p : Int) : Int := if ((1 ≤ k ∧ k ≤ 15) ∧ k / 2 * 2 ≠ k) ∧ 0 ≤ p ∧ p ≤ 10 then 0 else -1
def nWord (S : St) (k p : Int) : St := if ((1 ≤ k ∧ k ≤ 15) ∧ k / 2 * 2 ≠ k) ∧ 0 ≤ p ∧ p ≤ 10 then fracS S (betsU k.toNat p ((k.toNat + 1) / 2)) (p64 10 k.toNat) else S
theorem M_word {S : St} {σ : vMem} {n p : Int} (h : RM S σ) (h1 : -2147483648 ≤ n) (h2 : n < 2147483648) (h3 : -2147483648 ≤ p) (h4 : p < 2147483648) : ok (f_X3_word σ 161 (i32 n) (i32 p)) (fun r => r.1 = i32 (aWord n p) ∧ RM (nWord S n p) r.2 ∧ FM σ r.2) := by
  have hm := h.ml
  generalize hQ : (fun r : Int32 × vMem => r.1 = i32 (aWord n p) ∧ RM (nWord S n p) r.2 ∧ FM σ r.2) = Q
  have no : ¬ (((1 ≤ n ∧ n ≤ 15) ∧ n / 2 * 2 ≠ n) ∧ 0 ≤ p ∧ p ≤ 10) → ok (some (i32 (-1), si σ 161 0 (i32 ((0 : Nat) : Int)))) Q := fun c => by
    rw [← hQ]
    unfold aWord nWord
    rw [if_neg c, if_neg c]
    exact ok_some ⟨rfl, M_thrown h _, FM_thrown⟩
  unfold f_X3_word
  by_cases c1 : 1 ≤ n ∧ n ≤ 15
  · by_cases c3 : n / 2 * 2 ≠ n
    · by_cases c2 : 0 ≤ p ∧ p ≤ 10
      · have q0 := M_thrown h (i32 ((0 : Nat) : Int))
        (try simp (disch := omega) only [vl_s, bp_s, bd_s, bv_s, i32_nl, i32_n, i32_add, i32_sub, i32_mul, i32_neg, i32_ca, i32_cm, i32_cs, i32_cn, i32_le, i32_lt, i32_eq, i32_cl, Int.toNat_natCast, if_pos, if_neg, ite_true, ite_false, not_true_eq_false, not_false_eq_true, Nat.add_zero, Nat.zero_add, Nat.add_sub_cancel, ck_p, cko_si, cka_si, cko_sl, cka_sl, gi_e, gi_x, gl_e, gl_x, gr_si, gl_si, gi_sl, gr_sl, cko_c hm.k (show 3 ∈ [3] by decide), dr_c hm.r2, dr_c hm.r9, dr_c hm.r10, dr_c hm.r11, dr_c hm.r12, dr_c hm.r13, dr_c hm.r14, dr_c hm.r15, dr_c hm.r16, dr_c hm.r21, dr_c hm.r23, dr_c hm.r24, dr_c hm.r27, dr_c hm.r28, dr_c hm.r30, dr_c hm.r33, dr_c hm.r34, dr_c hm.r36, dr_c hm.r37, dr_c hm.r38, dr_c hm.r41, dr_c hm.r43, dr_c hm.r44, dr_c hm.r45, dr_c hm.r46, dr_c hm.r47, dr_c hm.r50, dr_c hm.r51, dr_c hm.r52, cka_i hm.k162 hm.l162, cka_i hm.k163 hm.l163, cka_i hm.k164 hm.l164, cka_i hm.k165 hm.l165, cka_i hm.k166 hm.l166, cka_i hm.k167 hm.l167, cka_i hm.k168 hm.l168, cka_i hm.k169 hm.l169, cka_i hm.k170 hm.l170, cka_i hm.k171 hm.l171, cka_i hm.k172 hm.l172, cka_i hm.k173 hm.l173, cka_i hm.k174 hm.l174, cka_i hm.k175 hm.l175, cka_i hm.k176 hm.l176, cka_i hm.k177 hm.l177, cka_i hm.k178 hm.l178, cka_i hm.k179 hm.l179, cka_i hm.k180 hm.l180, cka_i hm.k181 hm.l181, cka_i hm.k182 hm.l182, cka_i hm.k183 hm.l183, cka_i hm.k184 hm.l184, cka_i hm.k185 hm.l185, cka_i hm.k186 hm.l186, cka_i hm.k187 hm.l187, cka_i hm.k188 hm.l188, cka_i hm.k189 hm.l189, cka_i hm.k190 hm.l190, X3_inI, X1_inI, i32_64, b01_i0, b01_i1, i64_m1, i64_0, i64_1, i64_2, i64_3, i64_8, i64_9, i64_10, i64_12, i64_15, i64_18, i64_20, i64_24, i64_30, i64_39, i64_48, i64_57, i64_60, i64_99, i64_100, i64_999, i64_99999, i32_div])
        obtain ⟨k, rfl⟩ : ∃ k : Nat, n = k := ⟨n.toNat, by omega⟩
        obtain ⟨j, rfl⟩ : ∃ j : Nat, p = j := ⟨p.toNat, by omega⟩
        refine ok_bv (M_bets q0 (by omega) (by omega)) ?_
        rintro σ1 ⟨q1, F1, e39, e40⟩
        have hm1 := q1.ml
        (try simp (disch := omega) only [vl_s, bp_s, bd_s, bv_s, i32_nl, i32_n, i32_add, i32_sub, i32_mul, i32_neg, i32_ca, i32_cm, i32_cs, i32_cn, i32_le, i32_lt, i32_eq, i32_cl, Int.toNat_natCast, if_pos, if_neg, ite_true, ite_false, not_true_eq_false, not_false_eq_true, Nat.add_zero, Nat.zero_add, Nat.add_sub_cancel, ck_p, cko_si, cka_si, cko_sl, cka_sl, gi_e, gi_x, gl_e, gl_x, gr_si, gl_si, gi_sl, gr_sl, cko_c hm1.k (show 3 ∈ [3] by decide), dr_c hm1.r2, dr_c hm1.r9, dr_c hm1.r10, dr_c hm1.r11, dr_c hm1.r12, dr_c hm1.r13, dr_c hm1.r14, dr_c hm1.r15, dr_c hm1.r16, dr_c hm1.r21, dr_c hm1.r23, dr_c hm1.r24, dr_c hm1.r27, dr_c hm1.r28, dr_c hm1.r30, dr_c hm1.r33, dr_c hm1.r34, dr_c hm1.r36, dr_c hm1.r37, dr_c hm1.r38, dr_c hm1.r41, dr_c hm1.r43, dr_c hm1.r44, dr_c hm1.r45, dr_c hm1.r46, dr_c hm1.r47, dr_c hm1.r50, dr_c hm1.r51, dr_c hm1.r52, cka_i hm1.k162 hm1.l162, cka_i hm1.k163 hm1.l163, cka_i hm1.k164 hm1.l164, cka_i hm1.k165 hm1.l165, cka_i hm1.k166 hm1.l166, cka_i hm1.k167 hm1.l167, cka_i hm1.k168 hm1.l168, cka_i hm1.k169 hm1.l169, cka_i hm1.k170 hm1.l170, cka_i hm1.k171 hm1.l171, cka_i hm1.k172 hm1.l172, cka_i hm1.k173 hm1.l173, cka_i hm1.k174 hm1.l174, cka_i hm1.k175 hm1.l175, cka_i hm1.k176 hm1.l176, cka_i hm1.k177 hm1.l177, cka_i hm1.k178 hm1.l178, cka_i hm1.k179 hm1.l179, cka_i hm1.k180 hm1.l180, cka_i hm1.k181 hm1.l181, cka_i hm1.k182 hm1.l182, cka_i hm1.k183 hm1.l183, cka_i hm1.k184 hm1.l184, cka_i hm1.k185 hm1.l185, cka_i hm1.k186 hm1.l186, cka_i hm1.k187 hm1.l187, cka_i hm1.k188 hm1.l188, cka_i hm1.k189 hm1.l189, cka_i hm1.k190 hm1.l190, e39, e40])
        refine ok_bv (M_frac q1 (bets_ok k (by omega) j (by omega))) ?_
        rintro σ2 ⟨q2, F2⟩
        rw [← hQ]
        unfold aWord nWord
        rw [if_pos ⟨⟨c1, c3⟩, c2⟩, if_pos ⟨⟨c1, c3⟩, c2⟩, Int.toNat_natCast]
        exact ok_some ⟨rfl, q2, (FM_thrown.tr0 (F1.rsm (by decide))).tr0 (F2.rsm (by decide))⟩
      · (try simp (disch := omega) only [vl_s, bp_s, bd_s, bv_s, i32_nl, i32_n, i32_add, i32_sub, i32_mul, i32_neg, i32_ca, i32_cm, i32_cs, i32_cn, i32_le, i32_lt, i32_eq, i32_cl, Int.toNat_natCast, if_pos, if_neg, ite_true, ite_false, not_true_eq_false, not_false_eq_true, Nat.add_zero, Nat.zero_add, Nat.add_sub_cancel, ck_p, cko_si, cka_si, cko_sl, cka_sl, gi_e, gi_x, gl_e, gl_x, gr_si, gl_si, gi_sl, gr_sl, cko_c hm.k (show 3 ∈ [3] by decide), dr_c hm.r2, dr_c hm.r9, dr_c hm.r10, dr_c hm.r11, dr_c hm.r12, dr_c hm.r13, dr_c hm.r14, dr_c hm.r15, dr_c hm.r16, dr_c hm.r21, dr_c hm.r23, dr_c hm.r24, dr_c hm.r27, dr_c hm.r28, dr_c hm.r30, dr_c hm.r33, dr_c hm.r34, dr_c hm.r36, dr_c hm.r37, dr_c hm.r38, dr_c hm.r41, dr_c hm.r43, dr_c hm.r44, dr_c hm.r45, dr_c hm.r46, dr_c hm.r47, dr_c hm.r50, dr_c hm.r51, dr_c hm.r52, cka_i hm.k162 hm.l162, cka_i hm.k163 hm.l163, cka_i hm.k164 hm.l164, cka_i hm.k165 hm.l165, cka_i hm.k166 hm.l166, cka_i hm.k167 hm.l167, cka_i hm.k168 hm.l168, cka_i hm.k169 hm.l169, cka_i hm.k170 hm.l170, cka_i hm.k171 hm.l171, cka_i hm.k172 hm.l172, cka_i hm.k173 hm.l173, cka_i hm.k174 hm.l174, cka_i hm.k175 hm.l175, cka_i hm.k176 hm.l176, cka_i hm.k177 hm.l177, cka_i hm.k178 hm.l178, cka_i hm.k179 hm.l179, cka_i hm.k180 hm.l180, cka_i hm.k181 hm.l181, cka_i hm.k182 hm.l182, cka_i hm.k183 hm.l183, cka_i hm.k184 hm.l184, cka_i hm.k185 hm.l185, cka_i hm.k186 hm.l186, cka_i hm.k187 hm.l187, cka_i hm.k188 hm.l188, cka_i hm.k189 hm.l189, cka_i hm.k190 hm.l190, X3_inI, X1_inI, i32_64, b01_i0, b01_i1, i64_m1, i64_0, i64_1, i64_2, i64_3, i64_8, i64_9, i64_10, i64_12, i64_15, i64_18, i64_20, i64_24, i64_30, i64_39, i64_48, i64_57, i64_60, i64_99, i64_100, i64_999, i64_99999, i32_div])
        exact no (fun q => c2 q.2)
    · (try simp (disch := omega) only [vl_s, bp_s, bd_s, bv_s, i32_nl, i32_n, i32_add, i32_sub, i32_mul, i32_neg, i32_ca, i32_cm, i32_cs, i32_cn, i32_le, i32_lt, i32_eq, i32_cl, Int.toNat_natCast, if_pos, if_neg, ite_true, ite_false, not_true_eq_false, not_false_eq_true, Nat.add_zero, Nat.zero_add, Nat.add_sub_cancel, ck_p, cko_si, cka_si, cko_sl, cka_sl, gi_e, gi_x, gl_e, gl_x, gr_si, gl_si, gi_sl, gr_sl, cko_c hm.k (show 3 ∈ [3] by decide), dr_c hm.r2, dr_c hm.r9, dr_c hm.r10, dr_c hm.r11, dr_c hm.r12, dr_c hm.r13, dr_c hm.r14, dr_c hm.r15, dr_c hm.r16, dr_c hm.r21, dr_c hm.r23, dr_c hm.r24, dr_c hm.r27, dr_c hm.r28, dr_c hm.r30, dr_c hm.r33, dr_c hm.r34, dr_c hm.r36, dr_c hm.r37, dr_c hm.r38, dr_c hm.r41, dr_c hm.r43, dr_c hm.r44, dr_c hm.r45, dr_c hm.r46, dr_c hm.r47, dr_c hm.r50, dr_c hm.r51, dr_c hm.r52, cka_i hm.k162 hm.l162, cka_i hm.k163 hm.l163, cka_i hm.k164 hm.l164, cka_i hm.k165 hm.l165, cka_i hm.k166 hm.l166, cka_i hm.k167 hm.l167, cka_i hm.k168 hm.l168, cka_i hm.k169 hm.l169, cka_i hm.k170 hm.l170, cka_i hm.k171 hm.l171, cka_i hm.k172 hm.l172, cka_i hm.k173 hm.l173, cka_i hm.k174 hm.l174, cka_i hm.k175 hm.l175, cka_i hm.k176 hm.l176, cka_i hm.k177 hm.l177, cka_i hm.k178 hm.l178, cka_i hm.k179 hm.l179, cka_i hm.k180 hm.l180, cka_i hm.k181 hm.l181, cka_i hm.k182 hm.l182, cka_i hm.k183 hm.l183, cka_i hm.k184 hm.l184, cka_i hm.k185 hm.l185, cka_i hm.k186 hm.l186, cka_i hm.k187 hm.l187, cka_i hm.k188 hm.l188, cka_i hm.k189 hm.l189, cka_i hm.k190 hm.l190, X3_inI, X1_inI, i32_64, b01_i0, b01_i1, i64_m1, i64_0, i64_1, i64_2, i64_3, i64_8, i64_9, i64_10, i64_12, i64_15, i64_18, i64_20, i64_24, i64_30, i64_39, i64_48, i64_57, i64_60, i64_99, i64_100, i64_999, i64_99999, i32_div])
      exact no (fun q => c3 q.1.2)
  · have e := X3_inI (σ := si σ 161 0 (i32 ((0 : Nat) : Int))) (a := 1) (b := 15) h1 h2
    simp only [vl_s, cko_si, cko_c hm.k (show 3 ∈ [3] by decide), show (0 : Int32) = i32 ((0 : Nat) : Int) from rfl, e, i64_1, i64_15, bp_s]
    have c1' : ¬ (((1 : Nat) : Int) ≤ n ∧ n ≤ ((15 : Nat) : Int)) := c1
    rw [if_pos (b01_i0.mpr c1')]
    exact no (fun q => c1 q.1.1)
/-- how many must know -/
def surv (p v : Int) : Nat → Nat → Int
  | 0, _ => -2
  | n + 1, j => if lg_cmp (100 * betsU (2 * j + 1) p (j + 1)) (Int32.toInt64 (i32 v) * p64 10 (2 * j + 1)) < 0 then surv p v n (j + 1) else (2 * j + 1 : Nat)
def aSurvives (p v : Int) : Int := if (0 ≤ p ∧ p ≤ 10) ∧ 0 ≤ v ∧ v ≤ 100 then surv p v 8 0 else -1
theorem M_survives {S : St} {σ : vMem} {p v : Int} (h : RM S σ) (h1 : -2147483648 ≤ p) (h2 : p < 2147483648) (h3 : -2147483648 ≤ v) (h4 : v < 2147483648) : ok (f_X3_survives σ 161 (i32 p) (i32 v)) (fun r => r.1 = i32 (aSurvives p v) ∧ RM S r.2 ∧ FM σ r.2) := by
  have hm := h.ml
  have q0 := M_thrown h (i32 ((0 : Nat) : Int))
  generalize hQ : (fun r : Int32 × vMem => r.1 = i32 (aSurvives p v) ∧ RM S r.2 ∧ FM σ r.2) = Q
  have no : ¬ ((0 ≤ p ∧ p ≤ 10) ∧ 0 ≤ v ∧ v ≤ 100) → ok (some (i32 (-1), si σ 161 0 (i32 ((0 : Nat) : Int)))) Q := fun c => by
    rw [← hQ]
    unfold aSurvives
    rw [if_neg c]
    exact ok_some ⟨rfl, q0, FM_thrown⟩
  unfold f_X3_survives
  by_cases c1 : 0 ≤ p ∧ p ≤ 10
  · by_cases c2 : 0 ≤ v ∧ v ≤ 100
    · obtain ⟨j, rfl⟩ : ∃ j : Nat, p = j := ⟨p.toNat, by omega⟩
      have fin : ∀ σ1 x, RM S σ1 → FM σ σ1 → x = surv j v 8 0 → ok (some (i32 x, σ1)) Q := by
        rintro σ1 x q1 F1 rfl
        rw [← hQ]
        unfold aSurvives
        rw [if_pos ⟨c1, c2⟩]
        exact ok_some ⟨rfl, q1, F1⟩
      (try simp (disch := omega) only [vl_s, bp_s, bd_s, bv_s, i32_nl, i32_n, i32_add, i32_sub, i32_mul, i32_neg, i32_ca, i32_cm, i32_cs, i32_cn, i32_le, i32_lt, i32_eq, i32_cl, Int.toNat_natCast, if_pos, if_neg, ite_true, ite_false, not_true_eq_false, not_false_eq_true, Nat.add_zero, Nat.zero_add, Nat.add_sub_cancel, ck_p, cko_si, cka_si, cko_sl, cka_sl, gi_e, gi_x, gl_e, gl_x, gr_si, gl_si, gi_sl, gr_sl, cko_c hm.k (show 3 ∈ [3] by decide), dr_c hm.r2, dr_c hm.r9, dr_c hm.r10, dr_c hm.r11, dr_c hm.r12, dr_c hm.r13, dr_c hm.r14, dr_c hm.r15, dr_c hm.r16, dr_c hm.r21, dr_c hm.r23, dr_c hm.r24, dr_c hm.r27, dr_c hm.r28, dr_c hm.r30, dr_c hm.r33, dr_c hm.r34, dr_c hm.r36, dr_c hm.r37, dr_c hm.r38, dr_c hm.r41, dr_c hm.r43, dr_c hm.r44, dr_c hm.r45, dr_c hm.r46, dr_c hm.r47, dr_c hm.r50, dr_c hm.r51, dr_c hm.r52, cka_i hm.k162 hm.l162, cka_i hm.k163 hm.l163, cka_i hm.k164 hm.l164, cka_i hm.k165 hm.l165, cka_i hm.k166 hm.l166, cka_i hm.k167 hm.l167, cka_i hm.k168 hm.l168, cka_i hm.k169 hm.l169, cka_i hm.k170 hm.l170, cka_i hm.k171 hm.l171, cka_i hm.k172 hm.l172, cka_i hm.k173 hm.l173, cka_i hm.k174 hm.l174, cka_i hm.k175 hm.l175, cka_i hm.k176 hm.l176, cka_i hm.k177 hm.l177, cka_i hm.k178 hm.l178, cka_i hm.k179 hm.l179, cka_i hm.k180 hm.l180, cka_i hm.k181 hm.l181, cka_i hm.k182 hm.l182, cka_i hm.k183 hm.l183, cka_i hm.k184 hm.l184, cka_i hm.k185 hm.l185, cka_i hm.k186 hm.l186, cka_i hm.k187 hm.l187, cka_i hm.k188 hm.l188, cka_i hm.k189 hm.l189, cka_i hm.k190 hm.l190, X3_inI, X1_inI, i32_64, b01_i0, b01_i1, i64_m1, i64_0, i64_1, i64_2, i64_3, i64_8, i64_9, i64_10, i64_12, i64_15, i64_18, i64_20, i64_24, i64_30, i64_39, i64_48, i64_57, i64_60, i64_99, i64_100, i64_999, i64_99999])
      refine loop2 (F := f_X3_survives_33 161 (i32 j) (i32 v)) 8 (fun m σ1 x => x = i32 (2 * m + 1 : Nat) ∧ RM S σ1 ∧ FM σ σ1 ∧ surv j v 8 0 = surv j v (8 - m) m) ?_ FU 0 _ _ (by omega) ⟨rfl, q0, FM_thrown, rfl⟩ (by unfold FU; omega)
      rintro n m σ1 x hm8 ⟨rfl, q1, F1, hs⟩ IH
      have hm1 := q1.ml
      rw [f_X3_survives_33.eq_2]
      by_cases c : m < 8
      · (try simp (disch := omega) only [vl_s, bp_s, bd_s, bv_s, i32_nl, i32_n, i32_add, i32_sub, i32_mul, i32_neg, i32_ca, i32_cm, i32_cs, i32_cn, i32_le, i32_lt, i32_eq, i32_cl, Int.toNat_natCast, if_pos, if_neg, ite_true, ite_false, not_true_eq_false, not_false_eq_true, Nat.add_zero, Nat.zero_add, Nat.add_sub_cancel, ck_p, cko_si, cka_si, cko_sl, cka_sl, gi_e, gi_x, gl_e, gl_x, gr_si, gl_si, gi_sl, gr_sl, cko_c hm1.k (show 3 ∈ [3] by decide), dr_c hm1.r2, dr_c hm1.r9, dr_c hm1.r10, dr_c hm1.r11, dr_c hm1.r12, dr_c hm1.r13, dr_c hm1.r14, dr_c hm1.r15, dr_c hm1.r16, dr_c hm1.r21, dr_c hm1.r23, dr_c hm1.r24, dr_c hm1.r27, dr_c hm1.r28, dr_c hm1.r30, dr_c hm1.r33, dr_c hm1.r34, dr_c hm1.r36, dr_c hm1.r37, dr_c hm1.r38, dr_c hm1.r41, dr_c hm1.r43, dr_c hm1.r44, dr_c hm1.r45, dr_c hm1.r46, dr_c hm1.r47, dr_c hm1.r50, dr_c hm1.r51, dr_c hm1.r52, cka_i hm1.k162 hm1.l162, cka_i hm1.k163 hm1.l163, cka_i hm1.k164 hm1.l164, cka_i hm1.k165 hm1.l165, cka_i hm1.k166 hm1.l166, cka_i hm1.k167 hm1.l167, cka_i hm1.k168 hm1.l168, cka_i hm1.k169 hm1.l169, cka_i hm1.k170 hm1.l170, cka_i hm1.k171 hm1.l171, cka_i hm1.k172 hm1.l172, cka_i hm1.k173 hm1.l173, cka_i hm1.k174 hm1.l174, cka_i hm1.k175 hm1.l175, cka_i hm1.k176 hm1.l176, cka_i hm1.k177 hm1.l177, cka_i hm1.k178 hm1.l178, cka_i hm1.k179 hm1.l179, cka_i hm1.k180 hm1.l180, cka_i hm1.k181 hm1.l181, cka_i hm1.k182 hm1.l182, cka_i hm1.k183 hm1.l183, cka_i hm1.k184 hm1.l184, cka_i hm1.k185 hm1.l185, cka_i hm1.k186 hm1.l186, cka_i hm1.k187 hm1.l187, cka_i hm1.k188 hm1.l188, cka_i hm1.k189 hm1.l189, cka_i hm1.k190 hm1.l190])
        refine ok_bv (M_bets q1 (by omega) (by omega)) ?_
        rintro σ2 ⟨q2, F2, e39, e40⟩
        have hm2 := q2.ml
        have e8 : 8 - m = (8 - (m + 1)) + 1 := by omega
        rw [e8] at hs
        have em : (2 * m + 1 + 1) / 2 = m + 1 := by omega
        rw [em] at e39
        have F12 : FM σ σ2 := F1.tr0 (F2.rsm (by decide))
        simp only [cko_c hm2.k (show 3 ∈ [3] by decide), e39, e40]
        by_cases d : lg_cmp (100 * betsU (2 * m + 1) j (m + 1)) (Int32.toInt64 (i32 v) * p64 10 (2 * m + 1)) < 0
        · have d' : lg_cmp (100 * betsU (2 * m + 1) j (m + 1)) (Int32.toInt64 (i32 v) * p64 10 (2 * m + 1)) < i32 ((0 : Nat) : Int) := d
          rw [if_pos d']
          (try simp (disch := omega) only [vl_s, bp_s, bd_s, bv_s, i32_nl, i32_n, i32_add, i32_sub, i32_mul, i32_neg, i32_ca, i32_cm, i32_cs, i32_cn, i32_le, i32_lt, i32_eq, i32_cl, Int.toNat_natCast, if_pos, if_neg, ite_true, ite_false, not_true_eq_false, not_false_eq_true, Nat.add_zero, Nat.zero_add, Nat.add_sub_cancel, ck_p, cko_si, cka_si, cko_sl, cka_sl, gi_e, gi_x, gl_e, gl_x, gr_si, gl_si, gi_sl, gr_sl])
          refine IH c _ _ ⟨rfl, q2, F12, ?_⟩
          rw [hs]
          show (if _ then _ else _) = _
          rw [if_pos d]
        · have d' : ¬ lg_cmp (100 * betsU (2 * m + 1) j (m + 1)) (Int32.toInt64 (i32 v) * p64 10 (2 * m + 1)) < i32 ((0 : Nat) : Int) := d
          rw [if_neg d']
          refine fin σ2 _ q2 F12 ?_
          rw [hs]
          show _ = (if _ then _ else _)
          rw [if_neg d]
      · have : m = 8 := by omega
        subst this
        (try simp (disch := omega) only [vl_s, bp_s, bd_s, bv_s, i32_nl, i32_n, i32_add, i32_sub, i32_mul, i32_neg, i32_ca, i32_cm, i32_cs, i32_cn, i32_le, i32_lt, i32_eq, i32_cl, Int.toNat_natCast, if_pos, if_neg, ite_true, ite_false, not_true_eq_false, not_false_eq_true, Nat.add_zero, Nat.zero_add, Nat.add_sub_cancel, ck_p, cko_si, cka_si, cko_sl, cka_sl, gi_e, gi_x, gl_e, gl_x, gr_si, gl_si, gi_sl, gr_sl, cko_c hm1.k (show 3 ∈ [3] by decide), dr_c hm1.r2, dr_c hm1.r9, dr_c hm1.r10, dr_c hm1.r11, dr_c hm1.r12, dr_c hm1.r13, dr_c hm1.r14, dr_c hm1.r15, dr_c hm1.r16, dr_c hm1.r21, dr_c hm1.r23, dr_c hm1.r24, dr_c hm1.r27, dr_c hm1.r28, dr_c hm1.r30, dr_c hm1.r33, dr_c hm1.r34, dr_c hm1.r36, dr_c hm1.r37, dr_c hm1.r38, dr_c hm1.r41, dr_c hm1.r43, dr_c hm1.r44, dr_c hm1.r45, dr_c hm1.r46, dr_c hm1.r47, dr_c hm1.r50, dr_c hm1.r51, dr_c hm1.r52, cka_i hm1.k162 hm1.l162, cka_i hm1.k163 hm1.l163, cka_i hm1.k164 hm1.l164, cka_i hm1.k165 hm1.l165, cka_i hm1.k166 hm1.l166, cka_i hm1.k167 hm1.l167, cka_i hm1.k168 hm1.l168, cka_i hm1.k169 hm1.l169, cka_i hm1.k170 hm1.l170, cka_i hm1.k171 hm1.l171, cka_i hm1.k172 hm1.l172, cka_i hm1.k173 hm1.l173, cka_i hm1.k174 hm1.l174, cka_i hm1.k175 hm1.l175, cka_i hm1.k176 hm1.l176, cka_i hm1.k177 hm1.l177, cka_i hm1.k178 hm1.l178, cka_i hm1.k179 hm1.l179, cka_i hm1.k180 hm1.l180, cka_i hm1.k181 hm1.l181, cka_i hm1.k182 hm1.l182, cka_i hm1.k183 hm1.l183, cka_i hm1.k184 hm1.l184, cka_i hm1.k185 hm1.l185, cka_i hm1.k186 hm1.l186, cka_i hm1.k187 hm1.l187, cka_i hm1.k188 hm1.l188, cka_i hm1.k189 hm1.l189, cka_i hm1.k190 hm1.l190])
        exact fin σ1 _ q1 F1 (by rw [hs]; rfl)
    · (try simp (disch := omega) only [vl_s, bp_s, bd_s, bv_s, i32_nl, i32_n, i32_add, i32_sub, i32_mul, i32_neg, i32_ca, i32_cm, i32_cs, i32_cn, i32_le, i32_lt, i32_eq, i32_cl, Int.toNat_natCast, if_pos, if_neg, ite_true, ite_false, not_true_eq_false, not_false_eq_true, Nat.add_zero, Nat.zero_add, Nat.add_sub_cancel, ck_p, cko_si, cka_si, cko_sl, cka_sl, gi_e, gi_x, gl_e, gl_x, gr_si, gl_si, gi_sl, gr_sl, cko_c hm.k (show 3 ∈ [3] by decide), dr_c hm.r2, dr_c hm.r9, dr_c hm.r10, dr_c hm.r11, dr_c hm.r12, dr_c hm.r13, dr_c hm.r14, dr_c hm.r15, dr_c hm.r16, dr_c hm.r21, dr_c hm.r23, dr_c hm.r24, dr_c hm.r27, dr_c hm.r28, dr_c hm.r30, dr_c hm.r33, dr_c hm.r34, dr_c hm.r36, dr_c hm.r37, dr_c hm.r38, dr_c hm.r41, dr_c hm.r43, dr_c hm.r44, dr_c hm.r45, dr_c hm.r46, dr_c hm.r47, dr_c hm.r50, dr_c hm.r51, dr_c hm.r52, cka_i hm.k162 hm.l162, cka_i hm.k163 hm.l163, cka_i hm.k164 hm.l164, cka_i hm.k165 hm.l165, cka_i hm.k166 hm.l166, cka_i hm.k167 hm.l167, cka_i hm.k168 hm.l168, cka_i hm.k169 hm.l169, cka_i hm.k170 hm.l170, cka_i hm.k171 hm.l171, cka_i hm.k172 hm.l172, cka_i hm.k173 hm.l173, cka_i hm.k174 hm.l174, cka_i hm.k175 hm.l175, cka_i hm.k176 hm.l176, cka_i hm.k177 hm.l177, cka_i hm.k178 hm.l178, cka_i hm.k179 hm.l179, cka_i hm.k180 hm.l180, cka_i hm.k181 hm.l181, cka_i hm.k182 hm.l182, cka_i hm.k183 hm.l183, cka_i hm.k184 hm.l184, cka_i hm.k185 hm.l185, cka_i hm.k186 hm.l186, cka_i hm.k187 hm.l187, cka_i hm.k188 hm.l188, cka_i hm.k189 hm.l189, cka_i hm.k190 hm.l190, X3_inI, X1_inI, i32_64, b01_i0, b01_i1, i64_m1, i64_0, i64_1, i64_2, i64_3, i64_8, i64_9, i64_10, i64_12, i64_15, i64_18, i64_20, i64_24, i64_30, i64_39, i64_48, i64_57, i64_60, i64_99, i64_100, i64_999, i64_99999])
      exact no (fun q => c2 q.2)
  · (try simp (disch := omega) only [vl_s, bp_s, bd_s, bv_s, i32_nl, i32_n, i32_add, i32_sub, i32_mul, i32_neg, i32_ca, i32_cm, i32_cs, i32_cn, i32_le, i32_lt, i32_eq, i32_cl, Int.toNat_natCast, if_pos, if_neg, ite_true, ite_false, not_true_eq_false, not_false_eq_true, Nat.add_zero, Nat.zero_add, Nat.add_sub_cancel, ck_p, cko_si, cka_si, cko_sl, cka_sl, gi_e, gi_x, gl_e, gl_x, gr_si, gl_si, gi_sl, gr_sl, cko_c hm.k (show 3 ∈ [3] by decide), dr_c hm.r2, dr_c hm.r9, dr_c hm.r10, dr_c hm.r11, dr_c hm.r12, dr_c hm.r13, dr_c hm.r14, dr_c hm.r15, dr_c hm.r16, dr_c hm.r21, dr_c hm.r23, dr_c hm.r24, dr_c hm.r27, dr_c hm.r28, dr_c hm.r30, dr_c hm.r33, dr_c hm.r34, dr_c hm.r36, dr_c hm.r37, dr_c hm.r38, dr_c hm.r41, dr_c hm.r43, dr_c hm.r44, dr_c hm.r45, dr_c hm.r46, dr_c hm.r47, dr_c hm.r50, dr_c hm.r51, dr_c hm.r52, cka_i hm.k162 hm.l162, cka_i hm.k163 hm.l163, cka_i hm.k164 hm.l164, cka_i hm.k165 hm.l165, cka_i hm.k166 hm.l166, cka_i hm.k167 hm.l167, cka_i hm.k168 hm.l168, cka_i hm.k169 hm.l169, cka_i hm.k170 hm.l170, cka_i hm.k171 hm.l171, cka_i hm.k172 hm.l172, cka_i hm.k173 hm.l173, cka_i hm.k174 hm.l174, cka_i hm.k175 hm.l175, cka_i hm.k176 hm.l176, cka_i hm.k177 hm.l177, cka_i hm.k178 hm.l178, cka_i hm.k179 hm.l179, cka_i hm.k180 hm.l180, cka_i hm.k181 hm.l181, cka_i hm.k182 hm.l182, cka_i hm.k183 hm.l183, cka_i hm.k184 hm.l184, cka_i hm.k185 hm.l185, cka_i hm.k186 hm.l186, cka_i hm.k187 hm.l187, cka_i hm.k188 hm.l188, cka_i hm.k189 hm.l189, cka_i hm.k190 hm.l190, X3_inI, X1_inI, i32_64, b01_i0, b01_i1, i64_m1, i64_0, i64_1, i64_2, i64_3, i64_8, i64_9, i64_10, i64_12, i64_15, i64_18, i64_20, i64_24, i64_30, i64_39, i64_48, i64_57, i64_60, i64_99, i64_100, i64_999, i64_99999])
    exact no (fun q => c1 q.1)
/-- the fewest posts -/
def pf (c v : Int) : Int := (c - 1 + v - 1) / v - 1
def aFewest (S : St) (v : Int) : Int := if 1 ≤ v ∧ v ≤ 39 then pf S.shp.1 v else -1
theorem M_postsFor {S : St} {σ : vMem} {v : Int} (h : RM S σ) (g : gShp S.shp) (h1 : 1 ≤ v) (h2 : v ≤ 100) : f_X3_postsFor σ 161 (i32 v) = some (i32 (pf S.shp.1 v)) := by
  have hm := h.ml
  have q := h.shp.1
  have g1 : 2 ≤ S.shp.1 := g.1
  have g2 : S.shp.1 ≤ 40 := g.2.1
  unfold f_X3_postsFor
  simp (disch := omega) only [vl_s, bp_s, bd_s, bv_s, i32_nl, i32_n, i32_add, i32_sub, i32_mul, i32_neg, i32_ca, i32_cm, i32_cs, i32_cn, i32_le, i32_lt, i32_eq, i32_cl, Int.toNat_natCast, if_pos, if_neg, ite_true, ite_false, not_true_eq_false, not_false_eq_true, Nat.add_zero, Nat.zero_add, Nat.add_sub_cancel, ck_p, cko_c hm.k (show 3 ∈ [3] by decide), dr_c hm.r2, dr_c hm.r9, dr_c hm.r10, dr_c hm.r11, dr_c hm.r12, dr_c hm.r13, dr_c hm.r14, dr_c hm.r15, dr_c hm.r16, dr_c hm.r21, dr_c hm.r23, dr_c hm.r24, dr_c hm.r27, dr_c hm.r28, dr_c hm.r30, dr_c hm.r33, dr_c hm.r34, dr_c hm.r36, dr_c hm.r37, dr_c hm.r38, dr_c hm.r41, dr_c hm.r43, dr_c hm.r44, dr_c hm.r45, dr_c hm.r46, dr_c hm.r47, dr_c hm.r50, dr_c hm.r51, dr_c hm.r52, cka_i hm.k162 hm.l162, cka_i hm.k163 hm.l163, cka_i hm.k164 hm.l164, cka_i hm.k165 hm.l165, cka_i hm.k166 hm.l166, cka_i hm.k167 hm.l167, cka_i hm.k168 hm.l168, cka_i hm.k169 hm.l169, cka_i hm.k170 hm.l170, cka_i hm.k171 hm.l171, cka_i hm.k172 hm.l172, cka_i hm.k173 hm.l173, cka_i hm.k174 hm.l174, cka_i hm.k175 hm.l175, cka_i hm.k176 hm.l176, cka_i hm.k177 hm.l177, cka_i hm.k178 hm.l178, cka_i hm.k179 hm.l179, cka_i hm.k180 hm.l180, cka_i hm.k181 hm.l181, cka_i hm.k182 hm.l182, cka_i hm.k183 hm.l183, cka_i hm.k184 hm.l184, cka_i hm.k185 hm.l185, cka_i hm.k186 hm.l186, cka_i hm.k187 hm.l187, cka_i hm.k188 hm.l188, cka_i hm.k189 hm.l189, cka_i hm.k190 hm.l190, q, i32_div]
  rfl
theorem M_fewest {S : St} {σ : vMem} {v : Int} (h : RM S σ) (g : gShp S.shp) (h1 : -2147483648 ≤ v) (h2 : v < 2147483648) : ok (f_X3_fewest σ 161 (i32 v)) (fun r => r.1 = i32 (aFewest S v) ∧ RM S r.2 ∧ FM σ r.2) := by
  have hm := h.ml
  have q0 := M_thrown h (i32 ((0 : Nat) : Int))
  generalize hQ : (fun r : Int32 × vMem => r.1 = i32 (aFewest S v) ∧ RM S r.2 ∧ FM σ r.2) = Q
  unfold f_X3_fewest
  by_cases c : 1 ≤ v ∧ v ≤ 39
  · (try simp (disch := omega) only [vl_s, bp_s, bd_s, bv_s, i32_nl, i32_n, i32_add, i32_sub, i32_mul, i32_neg, i32_ca, i32_cm, i32_cs, i32_cn, i32_le, i32_lt, i32_eq, i32_cl, Int.toNat_natCast, if_pos, if_neg, ite_true, ite_false, not_true_eq_false, not_false_eq_true, Nat.add_zero, Nat.zero_add, Nat.add_sub_cancel, ck_p, cko_si, cka_si, cko_sl, cka_sl, gi_e, gi_x, gl_e, gl_x, gr_si, gl_si, gi_sl, gr_sl, cko_c hm.k (show 3 ∈ [3] by decide), dr_c hm.r2, dr_c hm.r9, dr_c hm.r10, dr_c hm.r11, dr_c hm.r12, dr_c hm.r13, dr_c hm.r14, dr_c hm.r15, dr_c hm.r16, dr_c hm.r21, dr_c hm.r23, dr_c hm.r24, dr_c hm.r27, dr_c hm.r28, dr_c hm.r30, dr_c hm.r33, dr_c hm.r34, dr_c hm.r36, dr_c hm.r37, dr_c hm.r38, dr_c hm.r41, dr_c hm.r43, dr_c hm.r44, dr_c hm.r45, dr_c hm.r46, dr_c hm.r47, dr_c hm.r50, dr_c hm.r51, dr_c hm.r52, cka_i hm.k162 hm.l162, cka_i hm.k163 hm.l163, cka_i hm.k164 hm.l164, cka_i hm.k165 hm.l165, cka_i hm.k166 hm.l166, cka_i hm.k167 hm.l167, cka_i hm.k168 hm.l168, cka_i hm.k169 hm.l169, cka_i hm.k170 hm.l170, cka_i hm.k171 hm.l171, cka_i hm.k172 hm.l172, cka_i hm.k173 hm.l173, cka_i hm.k174 hm.l174, cka_i hm.k175 hm.l175, cka_i hm.k176 hm.l176, cka_i hm.k177 hm.l177, cka_i hm.k178 hm.l178, cka_i hm.k179 hm.l179, cka_i hm.k180 hm.l180, cka_i hm.k181 hm.l181, cka_i hm.k182 hm.l182, cka_i hm.k183 hm.l183, cka_i hm.k184 hm.l184, cka_i hm.k185 hm.l185, cka_i hm.k186 hm.l186, cka_i hm.k187 hm.l187, cka_i hm.k188 hm.l188, cka_i hm.k189 hm.l189, cka_i hm.k190 hm.l190, X3_inI, X1_inI, i32_64, b01_i0, b01_i1, i64_m1, i64_0, i64_1, i64_2, i64_3, i64_8, i64_9, i64_10, i64_12, i64_15, i64_18, i64_20, i64_24, i64_30, i64_39, i64_48, i64_57, i64_60, i64_99, i64_100, i64_999, i64_99999, M_postsFor q0 g c.1 (show v ≤ 100 by omega)])
    rw [← hQ]
    unfold aFewest
    rw [if_pos c]
    exact ok_some ⟨rfl, q0, FM_thrown⟩
  · (try simp (disch := omega) only [vl_s, bp_s, bd_s, bv_s, i32_nl, i32_n, i32_add, i32_sub, i32_mul, i32_neg, i32_ca, i32_cm, i32_cs, i32_cn, i32_le, i32_lt, i32_eq, i32_cl, Int.toNat_natCast, if_pos, if_neg, ite_true, ite_false, not_true_eq_false, not_false_eq_true, Nat.add_zero, Nat.zero_add, Nat.add_sub_cancel, ck_p, cko_si, cka_si, cko_sl, cka_sl, gi_e, gi_x, gl_e, gl_x, gr_si, gl_si, gi_sl, gr_sl, cko_c hm.k (show 3 ∈ [3] by decide), dr_c hm.r2, dr_c hm.r9, dr_c hm.r10, dr_c hm.r11, dr_c hm.r12, dr_c hm.r13, dr_c hm.r14, dr_c hm.r15, dr_c hm.r16, dr_c hm.r21, dr_c hm.r23, dr_c hm.r24, dr_c hm.r27, dr_c hm.r28, dr_c hm.r30, dr_c hm.r33, dr_c hm.r34, dr_c hm.r36, dr_c hm.r37, dr_c hm.r38, dr_c hm.r41, dr_c hm.r43, dr_c hm.r44, dr_c hm.r45, dr_c hm.r46, dr_c hm.r47, dr_c hm.r50, dr_c hm.r51, dr_c hm.r52, cka_i hm.k162 hm.l162, cka_i hm.k163 hm.l163, cka_i hm.k164 hm.l164, cka_i hm.k165 hm.l165, cka_i hm.k166 hm.l166, cka_i hm.k167 hm.l167, cka_i hm.k168 hm.l168, cka_i hm.k169 hm.l169, cka_i hm.k170 hm.l170, cka_i hm.k171 hm.l171, cka_i hm.k172 hm.l172, cka_i hm.k173 hm.l173, cka_i hm.k174 hm.l174, cka_i hm.k175 hm.l175, cka_i hm.k176 hm.l176, cka_i hm.k177 hm.l177, cka_i hm.k178 hm.l178, cka_i hm.k179 hm.l179, cka_i hm.k180 hm.l180, cka_i hm.k181 hm.l181, cka_i hm.k182 hm.l182, cka_i hm.k183 hm.l183, cka_i hm.k184 hm.l184, cka_i hm.k185 hm.l185, cka_i hm.k186 hm.l186, cka_i hm.k187 hm.l187, cka_i hm.k188 hm.l188, cka_i hm.k189 hm.l189, cka_i hm.k190 hm.l190, X3_inI, X1_inI, i32_64, b01_i0, b01_i1, i64_m1, i64_0, i64_1, i64_2, i64_3, i64_8, i64_9, i64_10, i64_12, i64_15, i64_18, i64_20, i64_24, i64_30, i64_39, i64_48, i64_57, i64_60, i64_99, i64_100, i64_999, i64_99999])
    rw [← hQ]
    unfold aFewest
    rw [if_neg c]
    exact ok_some ⟨rfl, q0, FM_thrown⟩
/-- the least gap with so many posts; where they are -/
def gapS (c k : Int) : Int := (c - 1 + (k + 1) - 1) / (k + 1)
theorem gap_iff {c k g : Int} (hg : 1 ≤ g) (hk : 0 ≤ k) : (pf c g ≤ k ↔ gapS c k ≤ g) := by
  unfold pf gapS
  have e1 : (c - 1 + g - 1) / g < k + 2 ↔ c - 1 + g - 1 < (k + 2) * g := Int.ediv_lt_iff_lt_mul (by omega)
  have e2 : (c - 1 + (k + 1) - 1) / (k + 1) < g + 1 ↔ c - 1 + (k + 1) - 1 < (g + 1) * (k + 1) := Int.ediv_lt_iff_lt_mul (by omega)
  rw [Int.add_mul] at e1
  rw [Int.add_mul, Int.mul_add, Int.mul_comm g k] at e2
  omega
theorem gap_b : ∀ c : Nat, c ≤ 40 → ∀ k : Nat, k ≤ 10 → 2 ≤ c → 1 ≤ gapS c k ∧ gapS c k ≤ 40 := by
  unfold gapS
  decide +kernel
def relF (c gap : Int) (k : Nat) : Nat → Int
  | 0 => 0
  | i + 1 => max (relF c gap k i + 1) (c - 1 - gap * (k - i : Nat))
def relS (S : St) (c gap : Int) (k : Nat) : Nat → St
  | 0 => row0 S
  | i + 1 => rowA (relS S c gap k i) (Int32.toInt64 (i32 (relF c gap k (i + 1))))
theorem relF_b {c gap : Int} {k : Nat} (h1 : 2 ≤ c) (h2 : c ≤ 40) (h3 : 0 ≤ gap) : ∀ i : Nat, 0 ≤ relF c gap k i ∧ relF c gap k i ≤ 40 + i
  | 0 => by show 0 ≤ (0 : Int) ∧ (0 : Int) ≤ 40 + ((0 : Nat) : Int); omega
  | i + 1 => by
    have h := relF_b h1 h2 h3 (k := k) i
    have hp : 0 ≤ gap * (k - i : Nat) := Int.mul_nonneg h3 (by omega)
    show 0 ≤ max (relF c gap k i + 1) (c - 1 - gap * (k - i : Nat)) ∧ max (relF c gap k i + 1) (c - 1 - gap * (k - i : Nat)) ≤ 40 + ((i + 1 : Nat) : Int)
    omega
theorem relS_row (S : St) (c gap : Int) (k : Nat) : ∀ i, (relS S c gap k i).row.1 = i
  | 0 => rfl
  | i + 1 => by
    show (relS S c gap k i).row.1 + 1 = i + 1
    rw [relS_row S c gap k i]
def aRelay (S : St) (k : Int) : Int := if 0 ≤ k ∧ k ≤ 10 then (if k > S.shp.1 - 2 then -2 else gapS S.shp.1 k) else -1
def nRelay (S : St) (k : Int) : St := if (0 ≤ k ∧ k ≤ 10) ∧ ¬ k > S.shp.1 - 2 then relS S S.shp.1 (gapS S.shp.1 k) k.toNat k.toNat else S
theorem M_relay {S : St} {σ : vMem} {k : Int} (h : RM S σ) (g : gShp S.shp) (h1 : -2147483648 ≤ k) (h2 : k < 2147483648) : ok (f_X3_relay σ 161 (i32 k)) (fun r => r.1 = i32 (aRelay S k) ∧ RM (nRelay S k) r.2 ∧ FM σ r.2) := by
  have hm := h.ml
  have q0 := M_thrown h (i32 ((0 : Nat) : Int))
  have qc := h.shp.1
  have g1 : 2 ≤ S.shp.1 := g.1
  have g2 : S.shp.1 ≤ 40 := g.2.1
  generalize hQ : (fun r : Int32 × vMem => r.1 = i32 (aRelay S k) ∧ RM (nRelay S k) r.2 ∧ FM σ r.2) = Q
  unfold f_X3_relay
  by_cases c : 0 ≤ k ∧ k ≤ 10
  · obtain ⟨j, rfl⟩ : ∃ j : Nat, k = j := ⟨k.toNat, by omega⟩
    by_cases c2 : (j : Int) > S.shp.1 - 2
    · (try simp (disch := omega) only [vl_s, bp_s, bd_s, bv_s, i32_nl, i32_n, i32_add, i32_sub, i32_mul, i32_neg, i32_ca, i32_cm, i32_cs, i32_cn, i32_le, i32_lt, i32_eq, i32_cl, Int.toNat_natCast, if_pos, if_neg, ite_true, ite_false, not_true_eq_false, not_false_eq_true, Nat.add_zero, Nat.zero_add, Nat.add_sub_cancel, ck_p, cko_si, cka_si, cko_sl, cka_sl, gi_e, gi_x, gl_e, gl_x, gr_si, gl_si, gi_sl, gr_sl, cko_c hm.k (show 3 ∈ [3] by decide), dr_c hm.r2, dr_c hm.r9, dr_c hm.r10, dr_c hm.r11, dr_c hm.r12, dr_c hm.r13, dr_c hm.r14, dr_c hm.r15, dr_c hm.r16, dr_c hm.r21, dr_c hm.r23, dr_c hm.r24, dr_c hm.r27, dr_c hm.r28, dr_c hm.r30, dr_c hm.r33, dr_c hm.r34, dr_c hm.r36, dr_c hm.r37, dr_c hm.r38, dr_c hm.r41, dr_c hm.r43, dr_c hm.r44, dr_c hm.r45, dr_c hm.r46, dr_c hm.r47, dr_c hm.r50, dr_c hm.r51, dr_c hm.r52, cka_i hm.k162 hm.l162, cka_i hm.k163 hm.l163, cka_i hm.k164 hm.l164, cka_i hm.k165 hm.l165, cka_i hm.k166 hm.l166, cka_i hm.k167 hm.l167, cka_i hm.k168 hm.l168, cka_i hm.k169 hm.l169, cka_i hm.k170 hm.l170, cka_i hm.k171 hm.l171, cka_i hm.k172 hm.l172, cka_i hm.k173 hm.l173, cka_i hm.k174 hm.l174, cka_i hm.k175 hm.l175, cka_i hm.k176 hm.l176, cka_i hm.k177 hm.l177, cka_i hm.k178 hm.l178, cka_i hm.k179 hm.l179, cka_i hm.k180 hm.l180, cka_i hm.k181 hm.l181, cka_i hm.k182 hm.l182, cka_i hm.k183 hm.l183, cka_i hm.k184 hm.l184, cka_i hm.k185 hm.l185, cka_i hm.k186 hm.l186, cka_i hm.k187 hm.l187, cka_i hm.k188 hm.l188, cka_i hm.k189 hm.l189, cka_i hm.k190 hm.l190, X3_inI, X1_inI, i32_64, b01_i0, b01_i1, i64_m1, i64_0, i64_1, i64_2, i64_3, i64_8, i64_9, i64_10, i64_12, i64_15, i64_18, i64_20, i64_24, i64_30, i64_39, i64_48, i64_57, i64_60, i64_99, i64_100, i64_999, i64_99999, qc])
      rw [← hQ]
      unfold aRelay nRelay
      rw [if_pos c, if_pos c2, if_neg (fun q => q.2 c2)]
      exact ok_some ⟨rfl, q0, FM_thrown⟩
    · obtain ⟨cc, hcc⟩ : ∃ cc : Nat, S.shp.1 = cc := ⟨S.shp.1.toNat, by omega⟩
      have gif := fun (gp : Nat) (h' : 1 ≤ gp) => gap_iff (c := S.shp.1) (k := j) (g := gp) (by omega) (by omega)
      obtain ⟨gb1, gb2⟩ := gap_b cc (by omega) j (by omega) (by omega)
      rw [← hcc] at gb1 gb2
      obtain ⟨gp, hgp⟩ : ∃ gp : Nat, gapS S.shp.1 j = gp := ⟨(gapS S.shp.1 j).toNat, by omega⟩
      (try simp (disch := omega) only [vl_s, bp_s, bd_s, bv_s, i32_nl, i32_n, i32_add, i32_sub, i32_mul, i32_neg, i32_ca, i32_cm, i32_cs, i32_cn, i32_le, i32_lt, i32_eq, i32_cl, Int.toNat_natCast, if_pos, if_neg, ite_true, ite_false, not_true_eq_false, not_false_eq_true, Nat.add_zero, Nat.zero_add, Nat.add_sub_cancel, ck_p, cko_si, cka_si, cko_sl, cka_sl, gi_e, gi_x, gl_e, gl_x, gr_si, gl_si, gi_sl, gr_sl, cko_c hm.k (show 3 ∈ [3] by decide), dr_c hm.r2, dr_c hm.r9, dr_c hm.r10, dr_c hm.r11, dr_c hm.r12, dr_c hm.r13, dr_c hm.r14, dr_c hm.r15, dr_c hm.r16, dr_c hm.r21, dr_c hm.r23, dr_c hm.r24, dr_c hm.r27, dr_c hm.r28, dr_c hm.r30, dr_c hm.r33, dr_c hm.r34, dr_c hm.r36, dr_c hm.r37, dr_c hm.r38, dr_c hm.r41, dr_c hm.r43, dr_c hm.r44, dr_c hm.r45, dr_c hm.r46, dr_c hm.r47, dr_c hm.r50, dr_c hm.r51, dr_c hm.r52, cka_i hm.k162 hm.l162, cka_i hm.k163 hm.l163, cka_i hm.k164 hm.l164, cka_i hm.k165 hm.l165, cka_i hm.k166 hm.l166, cka_i hm.k167 hm.l167, cka_i hm.k168 hm.l168, cka_i hm.k169 hm.l169, cka_i hm.k170 hm.l170, cka_i hm.k171 hm.l171, cka_i hm.k172 hm.l172, cka_i hm.k173 hm.l173, cka_i hm.k174 hm.l174, cka_i hm.k175 hm.l175, cka_i hm.k176 hm.l176, cka_i hm.k177 hm.l177, cka_i hm.k178 hm.l178, cka_i hm.k179 hm.l179, cka_i hm.k180 hm.l180, cka_i hm.k181 hm.l181, cka_i hm.k182 hm.l182, cka_i hm.k183 hm.l183, cka_i hm.k184 hm.l184, cka_i hm.k185 hm.l185, cka_i hm.k186 hm.l186, cka_i hm.k187 hm.l187, cka_i hm.k188 hm.l188, cka_i hm.k189 hm.l189, cka_i hm.k190 hm.l190, X3_inI, X1_inI, i32_64, b01_i0, b01_i1, i64_m1, i64_0, i64_1, i64_2, i64_3, i64_8, i64_9, i64_10, i64_12, i64_15, i64_18, i64_20, i64_24, i64_30, i64_39, i64_48, i64_57, i64_60, i64_99, i64_100, i64_999, i64_99999, qc])
      refine loop1 (F := f_X3_relay_34 161 (i32 j) _ _) (gp - 1) (fun i x => x = i32 (i + 1 : Nat)) ?_ FU 0 _ (by omega) rfl (by unfold FU; omega)
      rintro n i x hi rfl IH
      rw [f_X3_relay_34.eq_2]
      have hpf := M_postsFor (v := (i + 1 : Nat)) q0 g (by omega) (by omega)
      have pfb : pf S.shp.1 (i + 1 : Nat) ≤ j ↔ gapS S.shp.1 j ≤ (i + 1 : Nat) := gif (i + 1) (by omega)
      have pf0 : -1 ≤ pf S.shp.1 (i + 1 : Nat) ∧ pf S.shp.1 (i + 1 : Nat) ≤ 100 := by
        unfold pf
        have e1 := Int.ediv_nonneg (show 0 ≤ S.shp.1 - 1 + ((i + 1 : Nat) : Int) - 1 by omega) (show 0 ≤ ((i + 1 : Nat) : Int) by omega)
        have e2 := Int.ediv_le_self ((i + 1 : Nat) : Int) (show 0 ≤ S.shp.1 - 1 + ((i + 1 : Nat) : Int) - 1 by omega)
        omega
      by_cases d : i < gp - 1
      · have d2 : ¬ pf S.shp.1 (i + 1 : Nat) ≤ j := by rw [pfb]; omega
        (try simp (disch := omega) only [vl_s, bp_s, bd_s, bv_s, i32_nl, i32_n, i32_add, i32_sub, i32_mul, i32_neg, i32_ca, i32_cm, i32_cs, i32_cn, i32_le, i32_lt, i32_eq, i32_cl, Int.toNat_natCast, if_pos, if_neg, ite_true, ite_false, not_true_eq_false, not_false_eq_true, Nat.add_zero, Nat.zero_add, Nat.add_sub_cancel, ck_p, cko_si, cka_si, cko_sl, cka_sl, gi_e, gi_x, gl_e, gl_x, gr_si, gl_si, gi_sl, gr_sl, cko_c hm.k (show 3 ∈ [3] by decide), dr_c hm.r2, dr_c hm.r9, dr_c hm.r10, dr_c hm.r11, dr_c hm.r12, dr_c hm.r13, dr_c hm.r14, dr_c hm.r15, dr_c hm.r16, dr_c hm.r21, dr_c hm.r23, dr_c hm.r24, dr_c hm.r27, dr_c hm.r28, dr_c hm.r30, dr_c hm.r33, dr_c hm.r34, dr_c hm.r36, dr_c hm.r37, dr_c hm.r38, dr_c hm.r41, dr_c hm.r43, dr_c hm.r44, dr_c hm.r45, dr_c hm.r46, dr_c hm.r47, dr_c hm.r50, dr_c hm.r51, dr_c hm.r52, cka_i hm.k162 hm.l162, cka_i hm.k163 hm.l163, cka_i hm.k164 hm.l164, cka_i hm.k165 hm.l165, cka_i hm.k166 hm.l166, cka_i hm.k167 hm.l167, cka_i hm.k168 hm.l168, cka_i hm.k169 hm.l169, cka_i hm.k170 hm.l170, cka_i hm.k171 hm.l171, cka_i hm.k172 hm.l172, cka_i hm.k173 hm.l173, cka_i hm.k174 hm.l174, cka_i hm.k175 hm.l175, cka_i hm.k176 hm.l176, cka_i hm.k177 hm.l177, cka_i hm.k178 hm.l178, cka_i hm.k179 hm.l179, cka_i hm.k180 hm.l180, cka_i hm.k181 hm.l181, cka_i hm.k182 hm.l182, cka_i hm.k183 hm.l183, cka_i hm.k184 hm.l184, cka_i hm.k185 hm.l185, cka_i hm.k186 hm.l186, cka_i hm.k187 hm.l187, cka_i hm.k188 hm.l188, cka_i hm.k189 hm.l189, cka_i hm.k190 hm.l190, hpf])
        exact IH d _ rfl
      · have hi2 : i = gp - 1 := by omega
        have hgi : i + 1 = gp := by omega
        have d2 : pf S.shp.1 (i + 1 : Nat) ≤ j := by rw [pfb]; omega
        (try simp (disch := omega) only [vl_s, bp_s, bd_s, bv_s, i32_nl, i32_n, i32_add, i32_sub, i32_mul, i32_neg, i32_ca, i32_cm, i32_cs, i32_cn, i32_le, i32_lt, i32_eq, i32_cl, Int.toNat_natCast, if_pos, if_neg, ite_true, ite_false, not_true_eq_false, not_false_eq_true, Nat.add_zero, Nat.zero_add, Nat.add_sub_cancel, ck_p, cko_si, cka_si, cko_sl, cka_sl, gi_e, gi_x, gl_e, gl_x, gr_si, gl_si, gi_sl, gr_sl, cko_c hm.k (show 3 ∈ [3] by decide), dr_c hm.r2, dr_c hm.r9, dr_c hm.r10, dr_c hm.r11, dr_c hm.r12, dr_c hm.r13, dr_c hm.r14, dr_c hm.r15, dr_c hm.r16, dr_c hm.r21, dr_c hm.r23, dr_c hm.r24, dr_c hm.r27, dr_c hm.r28, dr_c hm.r30, dr_c hm.r33, dr_c hm.r34, dr_c hm.r36, dr_c hm.r37, dr_c hm.r38, dr_c hm.r41, dr_c hm.r43, dr_c hm.r44, dr_c hm.r45, dr_c hm.r46, dr_c hm.r47, dr_c hm.r50, dr_c hm.r51, dr_c hm.r52, cka_i hm.k162 hm.l162, cka_i hm.k163 hm.l163, cka_i hm.k164 hm.l164, cka_i hm.k165 hm.l165, cka_i hm.k166 hm.l166, cka_i hm.k167 hm.l167, cka_i hm.k168 hm.l168, cka_i hm.k169 hm.l169, cka_i hm.k170 hm.l170, cka_i hm.k171 hm.l171, cka_i hm.k172 hm.l172, cka_i hm.k173 hm.l173, cka_i hm.k174 hm.l174, cka_i hm.k175 hm.l175, cka_i hm.k176 hm.l176, cka_i hm.k177 hm.l177, cka_i hm.k178 hm.l178, cka_i hm.k179 hm.l179, cka_i hm.k180 hm.l180, cka_i hm.k181 hm.l181, cka_i hm.k182 hm.l182, cka_i hm.k183 hm.l183, cka_i hm.k184 hm.l184, cka_i hm.k185 hm.l185, cka_i hm.k186 hm.l186, cka_i hm.k187 hm.l187, cka_i hm.k188 hm.l188, cka_i hm.k189 hm.l189, cka_i hm.k190 hm.l190, hpf])
        rw [hgi]
        refine loop3 (F := f_X3_relay_59 161 (i32 j) (i32 gp)) j (fun i σ1 v3 v4 => v4 = i32 (i + 1 : Nat) ∧ v3 = i32 (relF S.shp.1 gp j i) ∧ RM (relS S S.shp.1 gp j i) σ1 ∧ Fr (KM [0, 7]) 0 0 σ σ1) ?_ FU 0 _ _ _ (by omega) ⟨rfl, rfl, M_row0 q0, (Fr.rf.wm 0 rfl (by decide)).wm 7 rfl (by decide)⟩ (by unfold FU; omega)
        rintro n2 i2 σ1 v3 v4 hi3 ⟨rfl, rfl, q1, F1⟩ IH2
        have hm1 := q1.ml
        have sc : ∀ i, (relS S S.shp.1 gp j i).shp = S.shp := by
          intro i
          induction i with
          | zero => rfl
          | succ i ih => exact ih
        have qc1 : gi σ1 161 3 = i32 S.shp.1 := by have := q1.shp.1; rw [sc] at this; exact this
        have rb := relF_b (k := j) g1 g2 (show (0 : Int) ≤ gp by omega) i2
        have hr := relS_row S S.shp.1 gp j i2
        rw [f_X3_relay_59.eq_2]
        by_cases e : i2 < j
        · have hp : 0 ≤ (gp : Int) * (j - i2 : Nat) ∧ (gp : Int) * (j - i2 : Nat) ≤ 400 := ⟨Int.mul_nonneg (by omega) (by omega), by
            have := Int.mul_le_mul (show (gp : Int) ≤ 40 by omega) (show ((j - i2 : Nat) : Int) ≤ 10 by omega) (by omega) (by omega)
            omega⟩
          have e3 : j - (i2 + 1) + 1 = j - i2 := by omega
          (try simp (disch := omega) only [vl_s, bp_s, bd_s, bv_s, i32_nl, i32_n, i32_add, i32_sub, i32_mul, i32_neg, i32_ca, i32_cm, i32_cs, i32_cn, i32_le, i32_lt, i32_eq, i32_cl, Int.toNat_natCast, if_pos, if_neg, ite_true, ite_false, not_true_eq_false, not_false_eq_true, Nat.add_zero, Nat.zero_add, Nat.add_sub_cancel, ck_p, cko_si, cka_si, cko_sl, cka_sl, gi_e, gi_x, gl_e, gl_x, gr_si, gl_si, gi_sl, gr_sl, cko_c hm1.k (show 3 ∈ [3] by decide), dr_c hm1.r2, dr_c hm1.r9, dr_c hm1.r10, dr_c hm1.r11, dr_c hm1.r12, dr_c hm1.r13, dr_c hm1.r14, dr_c hm1.r15, dr_c hm1.r16, dr_c hm1.r21, dr_c hm1.r23, dr_c hm1.r24, dr_c hm1.r27, dr_c hm1.r28, dr_c hm1.r30, dr_c hm1.r33, dr_c hm1.r34, dr_c hm1.r36, dr_c hm1.r37, dr_c hm1.r38, dr_c hm1.r41, dr_c hm1.r43, dr_c hm1.r44, dr_c hm1.r45, dr_c hm1.r46, dr_c hm1.r47, dr_c hm1.r50, dr_c hm1.r51, dr_c hm1.r52, cka_i hm1.k162 hm1.l162, cka_i hm1.k163 hm1.l163, cka_i hm1.k164 hm1.l164, cka_i hm1.k165 hm1.l165, cka_i hm1.k166 hm1.l166, cka_i hm1.k167 hm1.l167, cka_i hm1.k168 hm1.l168, cka_i hm1.k169 hm1.l169, cka_i hm1.k170 hm1.l170, cka_i hm1.k171 hm1.l171, cka_i hm1.k172 hm1.l172, cka_i hm1.k173 hm1.l173, cka_i hm1.k174 hm1.l174, cka_i hm1.k175 hm1.l175, cka_i hm1.k176 hm1.l176, cka_i hm1.k177 hm1.l177, cka_i hm1.k178 hm1.l178, cka_i hm1.k179 hm1.l179, cka_i hm1.k180 hm1.l180, cka_i hm1.k181 hm1.l181, cka_i hm1.k182 hm1.l182, cka_i hm1.k183 hm1.l183, cka_i hm1.k184 hm1.l184, cka_i hm1.k185 hm1.l185, cka_i hm1.k186 hm1.l186, cka_i hm1.k187 hm1.l187, cka_i hm1.k188 hm1.l188, cka_i hm1.k189 hm1.l189, cka_i hm1.k190 hm1.l190, qc1, e3])
          have e4 : ((gp * (j - i2) : Nat) : Int) = (gp : Int) * (j - i2 : Nat) := by rw [Int.natCast_mul]
          have e5 : imax (i32 (relF S.shp.1 gp j i2 + ((1 : Nat) : Int))) (i32 (S.shp.1 - ((1 : Nat) : Int) - ((gp * (j - i2) : Nat) : Int))) = i32 (relF S.shp.1 gp j (i2 + 1)) := by
            rw [e4]
            exact imax_i (by omega) (by omega) (by omega) (by omega)
          rw [e5]
          refine ok_bv (M_enters q1 (by omega) _) ?_
          rintro σ2 ⟨q2, F2⟩
          exact IH2 e _ _ _ ⟨rfl, rfl, q2, F1.tr0 (F2.sub (by decide))⟩
        · have : i2 = j := by omega
          subst this
          (try simp (disch := omega) only [vl_s, bp_s, bd_s, bv_s, i32_nl, i32_n, i32_add, i32_sub, i32_mul, i32_neg, i32_ca, i32_cm, i32_cs, i32_cn, i32_le, i32_lt, i32_eq, i32_cl, Int.toNat_natCast, if_pos, if_neg, ite_true, ite_false, not_true_eq_false, not_false_eq_true, Nat.add_zero, Nat.zero_add, Nat.add_sub_cancel, ck_p, cko_si, cka_si, cko_sl, cka_sl, gi_e, gi_x, gl_e, gl_x, gr_si, gl_si, gi_sl, gr_sl, cko_c hm1.k (show 3 ∈ [3] by decide), dr_c hm1.r2, dr_c hm1.r9, dr_c hm1.r10, dr_c hm1.r11, dr_c hm1.r12, dr_c hm1.r13, dr_c hm1.r14, dr_c hm1.r15, dr_c hm1.r16, dr_c hm1.r21, dr_c hm1.r23, dr_c hm1.r24, dr_c hm1.r27, dr_c hm1.r28, dr_c hm1.r30, dr_c hm1.r33, dr_c hm1.r34, dr_c hm1.r36, dr_c hm1.r37, dr_c hm1.r38, dr_c hm1.r41, dr_c hm1.r43, dr_c hm1.r44, dr_c hm1.r45, dr_c hm1.r46, dr_c hm1.r47, dr_c hm1.r50, dr_c hm1.r51, dr_c hm1.r52, cka_i hm1.k162 hm1.l162, cka_i hm1.k163 hm1.l163, cka_i hm1.k164 hm1.l164, cka_i hm1.k165 hm1.l165, cka_i hm1.k166 hm1.l166, cka_i hm1.k167 hm1.l167, cka_i hm1.k168 hm1.l168, cka_i hm1.k169 hm1.l169, cka_i hm1.k170 hm1.l170, cka_i hm1.k171 hm1.l171, cka_i hm1.k172 hm1.l172, cka_i hm1.k173 hm1.l173, cka_i hm1.k174 hm1.l174, cka_i hm1.k175 hm1.l175, cka_i hm1.k176 hm1.l176, cka_i hm1.k177 hm1.l177, cka_i hm1.k178 hm1.l178, cka_i hm1.k179 hm1.l179, cka_i hm1.k180 hm1.l180, cka_i hm1.k181 hm1.l181, cka_i hm1.k182 hm1.l182, cka_i hm1.k183 hm1.l183, cka_i hm1.k184 hm1.l184, cka_i hm1.k185 hm1.l185, cka_i hm1.k186 hm1.l186, cka_i hm1.k187 hm1.l187, cka_i hm1.k188 hm1.l188, cka_i hm1.k189 hm1.l189, cka_i hm1.k190 hm1.l190])
          rw [← hQ]
          unfold aRelay nRelay
          rw [if_pos c, if_neg c2, if_pos ⟨c, c2⟩, hgp, Int.toNat_natCast]
          exact ok_some ⟨rfl, q1, F1.rsm (by decide)⟩
  · (try simp (disch := omega) only [vl_s, bp_s, bd_s, bv_s, i32_nl, i32_n, i32_add, i32_sub, i32_mul, i32_neg, i32_ca, i32_cm, i32_cs, i32_cn, i32_le, i32_lt, i32_eq, i32_cl, Int.toNat_natCast, if_pos, if_neg, ite_true, ite_false, not_true_eq_false, not_false_eq_true, Nat.add_zero, Nat.zero_add, Nat.add_sub_cancel, ck_p, cko_si, cka_si, cko_sl, cka_sl, gi_e, gi_x, gl_e, gl_x, gr_si, gl_si, gi_sl, gr_sl, cko_c hm.k (show 3 ∈ [3] by decide), dr_c hm.r2, dr_c hm.r9, dr_c hm.r10, dr_c hm.r11, dr_c hm.r12, dr_c hm.r13, dr_c hm.r14, dr_c hm.r15, dr_c hm.r16, dr_c hm.r21, dr_c hm.r23, dr_c hm.r24, dr_c hm.r27, dr_c hm.r28, dr_c hm.r30, dr_c hm.r33, dr_c hm.r34, dr_c hm.r36, dr_c hm.r37, dr_c hm.r38, dr_c hm.r41, dr_c hm.r43, dr_c hm.r44, dr_c hm.r45, dr_c hm.r46, dr_c hm.r47, dr_c hm.r50, dr_c hm.r51, dr_c hm.r52, cka_i hm.k162 hm.l162, cka_i hm.k163 hm.l163, cka_i hm.k164 hm.l164, cka_i hm.k165 hm.l165, cka_i hm.k166 hm.l166, cka_i hm.k167 hm.l167, cka_i hm.k168 hm.l168, cka_i hm.k169 hm.l169, cka_i hm.k170 hm.l170, cka_i hm.k171 hm.l171, cka_i hm.k172 hm.l172, cka_i hm.k173 hm.l173, cka_i hm.k174 hm.l174, cka_i hm.k175 hm.l175, cka_i hm.k176 hm.l176, cka_i hm.k177 hm.l177, cka_i hm.k178 hm.l178, cka_i hm.k179 hm.l179, cka_i hm.k180 hm.l180, cka_i hm.k181 hm.l181, cka_i hm.k182 hm.l182, cka_i hm.k183 hm.l183, cka_i hm.k184 hm.l184, cka_i hm.k185 hm.l185, cka_i hm.k186 hm.l186, cka_i hm.k187 hm.l187, cka_i hm.k188 hm.l188, cka_i hm.k189 hm.l189, cka_i hm.k190 hm.l190, X3_inI, X1_inI, i32_64, b01_i0, b01_i1, i64_m1, i64_0, i64_1, i64_2, i64_3, i64_8, i64_9, i64_10, i64_12, i64_15, i64_18, i64_20, i64_24, i64_30, i64_39, i64_48, i64_57, i64_60, i64_99, i64_100, i64_999, i64_99999])
    rw [← hQ]
    unfold aRelay nRelay
    rw [if_neg c, if_neg (fun q => c q.1)]
    exact ok_some ⟨rfl, q0, FM_thrown⟩
