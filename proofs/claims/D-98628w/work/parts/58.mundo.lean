/-! THE MODEL: what can be undone -/
set_option maxRecDepth 100000
theorem i64_0 : (0 : Int64).toInt = ((0 : Nat) : Int) := by decide
theorem i64_1 : (1 : Int64).toInt = ((1 : Nat) : Int) := by decide
theorem i64_2 : (2 : Int64).toInt = ((2 : Nat) : Int) := by decide
theorem i64_3 : (3 : Int64).toInt = ((3 : Nat) : Int) := by decide
theorem i64_8 : (8 : Int64).toInt = ((8 : Nat) : Int) := by decide
theorem i64_9 : (9 : Int64).toInt = ((9 : Nat) : Int) := by decide
theorem i64_10 : (10 : Int64).toInt = ((10 : Nat) : Int) := by decide
theorem i64_12 : (12 : Int64).toInt = ((12 : Nat) : Int) := by decide
theorem i64_15 : (15 : Int64).toInt = ((15 : Nat) : Int) := by decide
theorem i64_18 : (18 : Int64).toInt = ((18 : Nat) : Int) := by decide
theorem i64_20 : (20 : Int64).toInt = ((20 : Nat) : Int) := by decide
theorem i64_24 : (24 : Int64).toInt = ((24 : Nat) : Int) := by decide
theorem i64_30 : (30 : Int64).toInt = ((30 : Nat) : Int) := by decide
theorem i64_39 : (39 : Int64).toInt = ((39 : Nat) : Int) := by decide
theorem i64_48 : (48 : Int64).toInt = ((48 : Nat) : Int) := by decide
theorem i64_57 : (57 : Int64).toInt = ((57 : Nat) : Int) := by decide
theorem i64_60 : (60 : Int64).toInt = ((60 : Nat) : Int) := by decide
theorem i64_99 : (99 : Int64).toInt = ((99 : Nat) : Int) := by decide
theorem i64_100 : (100 : Int64).toInt = ((100 : Nat) : Int) := by decide
theorem i64_999 : (999 : Int64).toInt = ((999 : Nat) : Int) := by decide
theorem i64_99999 : (99999 : Int64).toInt = ((99999 : Nat) : Int) := by decide
theorem i64_m1 : (-1 : Int64).toInt = -1 := by decide
theorem b01_i0 {c : Prop} [Decidable c] : b01 c = i32 ((0 : Nat) : Int) ↔ ¬ c := b01_0
theorem b01_i1 {c : Prop} [Decidable c] : b01 c = i32 ((1 : Nat) : Int) ↔ c := by
  unfold b01
  by_cases h : c
  · rw [if_pos h]; exact ⟨fun _ => h, fun _ => rfl⟩
  · rw [if_neg h]; exact ⟨fun q => absurd q (by decide), fun q => absurd q h⟩
theorem X3_inI {σ : vMem} {x : Int} {a b : Int64} (h1 : -2147483648 ≤ x) (h2 : x < 2147483648) : f_X3_in σ (Int32.toInt64 (i32 x)) a b = some (b01 (a.toInt ≤ x ∧ x ≤ b.toInt)) := by
  rw [X3_in, i32_64 h1 h2]
theorem X1_inI {σ : vMem} {x : Int} {a b : Int64} (h1 : -2147483648 ≤ x) (h2 : x < 2147483648) : f_X1_in σ (Int32.toInt64 (i32 x)) a b = some (b01 (a.toInt ≤ x ∧ x ≤ b.toInt)) := X3_inI (σ := σ) h1 h2
theorem X3_isM {σ : vMem} {M : Nat} {m : Int} (h : ML σ) (hE : gi σ 161 7 = i32 M) (hM : M ≤ 8) (h1 : -2147483648 ≤ m) (h2 : m < 2147483648) : f_X3_isMess σ 161 (i32 m) = some (b01 (0 ≤ m ∧ m < M)) := by
  rw [X3_isMess h, hE]
  congr 1
  have e : (i32 M - 1).toInt = (M : Int) - 1 := by
    rw [show (1 : Int32) = i32 1 from rfl, i32_sub, i32_toInt (by omega) (by omega)]
  rw [e, i32_toInt h1 h2]
  unfold b01
  by_cases c : 0 ≤ m ∧ m < M
  · rw [if_pos c, if_pos (by omega)]
  · rw [if_neg c, if_neg (by omega)]
def pushU (u : List Wt) (W : Wt) : List Wt := (u ++ [W]).drop (u.length + 1 - 15)
def K176 (U : Nat) (b j : Nat) : Prop := ¬ (b = 176 ∧ 57 * U ≤ j)
theorem M_putsBy {S : St} {σ : vMem} {B : Int} (h : RM S σ) (g : gSt B S) : ok (f_X3_putsBy σ 161) (fun σ' => RM S σ' ∧ WM σ' 176 (57 * S.und.length) S.now ∧ Fr (KM [0, 5]) 0 0 σ σ') := by
  have hm := h.ml
  have hn := h.mn
  have hU := g.und.1
  have hw := g.now.len
  unfold f_X3_putsBy
  refine ok_mono (P := fun σ1 => Fr (K176 S.und.length) 0 0 σ σ1 ∧ ∀ j, j < 57 → gi σ1 176 (57 * S.und.length + j) = gi σ 168 j) ?_ ?_
  · refine loop2 (F := f_X3_putsBy_2 161) 57 (fun k σ1 v => v = i32 k ∧ ML σ1 ∧ gi σ1 161 29 = i32 S.und.length ∧ Fr (K176 S.und.length) 0 0 σ σ1 ∧ ∀ j, j < k → gi σ1 176 (57 * S.und.length + j) = gi σ 168 j) ?_ FU 0 σ 0 (by omega) ⟨rfl, hm, h.und.1, Fr.rf, fun j hj => by omega⟩ (by unfold FU; omega)
    rintro n k σ1 v hk2 ⟨rfl, h1, h29, F1, hc1⟩ IH
    rw [f_X3_putsBy_2.eq_2]
    by_cases hc : k < 57
    · simp (disch := omega) only [vl_s, bp_s, bd_s, bv_s, i32_nl, i32_n, i32_add, i32_sub, i32_mul, i32_neg, i32_ca, i32_cm, i32_cs, i32_cn, i32_le, i32_lt, i32_eq, i32_cl, Int.toNat_natCast, if_pos, if_neg, ite_true, ite_false, not_true_eq_false, not_false_eq_true, Nat.add_zero, Nat.zero_add, Nat.add_sub_cancel, ck_p, cko_si, cka_si, cko_sl, cka_sl, gi_e, gi_x, gl_e, gl_x, gr_si, gl_si, gi_sl, gr_sl, cko_c h1.k (show 3 ∈ [3] by decide), dr_c h1.r2, dr_c h1.r9, dr_c h1.r10, dr_c h1.r11, dr_c h1.r12, dr_c h1.r13, dr_c h1.r14, dr_c h1.r15, dr_c h1.r16, dr_c h1.r21, dr_c h1.r23, dr_c h1.r24, dr_c h1.r27, dr_c h1.r28, dr_c h1.r30, dr_c h1.r33, dr_c h1.r34, dr_c h1.r36, dr_c h1.r37, dr_c h1.r38, dr_c h1.r41, dr_c h1.r43, dr_c h1.r44, dr_c h1.r45, dr_c h1.r46, dr_c h1.r47, dr_c h1.r50, dr_c h1.r51, dr_c h1.r52, cka_i h1.k162 h1.l162, cka_i h1.k163 h1.l163, cka_i h1.k164 h1.l164, cka_i h1.k165 h1.l165, cka_i h1.k166 h1.l166, cka_i h1.k167 h1.l167, cka_i h1.k168 h1.l168, cka_i h1.k169 h1.l169, cka_i h1.k170 h1.l170, cka_i h1.k171 h1.l171, cka_i h1.k172 h1.l172, cka_i h1.k173 h1.l173, cka_i h1.k174 h1.l174, cka_i h1.k175 h1.l175, cka_i h1.k176 h1.l176, cka_i h1.k177 h1.l177, cka_i h1.k178 h1.l178, cka_i h1.k179 h1.l179, cka_i h1.k180 h1.l180, cka_i h1.k181 h1.l181, cka_i h1.k182 h1.l182, cka_i h1.k183 h1.l183, cka_i h1.k184 h1.l184, cka_i h1.k185 h1.l185, cka_i h1.k186 h1.l186, cka_i h1.k187 h1.l187, cka_i h1.k188 h1.l188, cka_i h1.k189 h1.l189, cka_i h1.k190 h1.l190, h29]
      refine IH hc _ _ ⟨rfl, h1, ?_, F1.wi (fun q => q ⟨rfl, by omega⟩), fun j hj => ?_⟩
      · simp (disch := omega) only [cko_si, cka_si, cko_sl, cka_sl, gi_e, gi_x, gl_e, gl_x, gr_si, gl_si, gi_sl, gr_sl]; exact h29
      · by_cases hjk : j = k
        · subst hjk
          simp (disch := omega) only [cko_si, cka_si, cko_sl, cka_sl, gi_e, gi_x, gl_e, gl_x, gr_si, gl_si, gi_sl, gr_sl]
          exact F1.i (by omega) (fun q => by omega)
        · simp (disch := omega) only [cko_si, cka_si, cko_sl, cka_sl, gi_e, gi_x, gl_e, gl_x, gr_si, gl_si, gi_sl, gr_sl]
          exact hc1 j (by omega)
    · have : k = 57 := by omega
      subst this
      simp (disch := omega) only [vl_s, bp_s, bd_s, bv_s, i32_nl, i32_n, i32_add, i32_sub, i32_mul, i32_neg, i32_ca, i32_cm, i32_cs, i32_cn, i32_le, i32_lt, i32_eq, i32_cl, Int.toNat_natCast, if_pos, if_neg, ite_true, ite_false, not_true_eq_false, not_false_eq_true, Nat.add_zero, Nat.zero_add, Nat.add_sub_cancel, ck_p]
      exact ⟨_, rfl, F1, hc1⟩
  · rintro σ1 ⟨F, hc⟩
    have F5 : Fr (KM [0, 5]) 0 0 σ σ1 := F.mono (fun b j q e => q (by rw [e.1, show reg 176 j = 5 from rfl]; decide))
    refine ⟨h.uUnd F5 (x := S.und) ⟨?_, fun k W hk => ?_⟩, h.now.eq hw hc, F5⟩
    · rw [F.i (by omega) (fun q => by omega)]; exact h.und.1
    · have h1 := h.und.2 k W hk
      have h2 : k < S.und.length := (List.getElem?_eq_some_iff.mp hk).1
      refine RowIs.eq h1 (g.und.2 W (List.mem_of_getElem? hk)).len (fun j hj => ?_)
      exact F.i (by omega) (fun q => by omega)
theorem pushU_len (u : List Wt) (W : Wt) (h : u.length ≤ 15) : (pushU u W).length = min 15 (u.length + 1) := by
  unfold pushU
  rw [List.length_drop, List.length_append]
  show u.length + 1 - (u.length + 1 - 15) = _
  omega
theorem pushU_get {u : List Wt} {W V : Wt} {k : Nat} (h : (pushU u W)[k]? = some V) : u[k + (u.length + 1 - 15)]? = some V ∨ (k + (u.length + 1 - 15) = u.length ∧ V = W) := by
  unfold pushU at h
  rw [List.getElem?_drop, Nat.add_comm] at h
  exact snoc_get h
theorem pushU_g {u : List Wt} {W : Wt} {B : Int} (g : gUnd B u) (gw : gW B W) : gUnd B (pushU u W) := by
  refine ⟨by rw [pushU_len u W g.1]; omega, fun V hV => ?_⟩
  obtain ⟨k, hk⟩ := List.mem_iff_getElem?.mp hV
  rcases pushU_get hk with h1 | ⟨-, rfl⟩
  · exact g.2 V (List.mem_of_getElem? h1)
  · exact gw
theorem M_adds {S : St} {σ : vMem} {B : Int} {W : Wt} {x : Int32} (h : RM S σ) (g : gUnd B S.und) (gw : gW B W) (hW : WM σ 176 (57 * S.und.length) W) : ok (f_X3_adds σ 161 x) (fun r => r.1 = x ∧ RM (S.wUnd (pushU S.und W)) r.2 ∧ Fr (KM [0, 5]) 0 0 σ r.2) := by
  have hm := h.ml
  have hn := h.mn
  have hU := g.1
  have hl := pushU_len S.und W hU
  have key : ∀ σ1, Fr (KM [0, 5]) 0 0 σ σ1 → gi σ1 161 29 = i32 (pushU S.und W).length → (∀ j, j < 855 → gi σ1 176 j = gi σ 176 (j + 57 * (S.und.length + 1 - 15))) → mUnd (pushU S.und W) σ1 := by
    intro σ1 F h29 hc
    refine ⟨h29, fun k V hk => ?_⟩
    have hk2 : k < (pushU S.und W).length := (List.getElem?_eq_some_iff.mp hk).1
    rcases pushU_get hk with h1 | ⟨h1, rfl⟩
    · refine RowIs.eq (h.und.2 _ V h1) (g.2 V (List.mem_of_getElem? h1)).len (fun j hj => ?_)
      rw [hc _ (by omega)]
      congr 1
      omega
    · refine RowIs.eq hW gw.len (fun j hj => ?_)
      rw [hc _ (by omega)]
      congr 1
      omega
  unfold f_X3_adds
  have h29 := h.und.1
  by_cases c : S.und.length < 15
  · simp (disch := omega) only [vl_s, bp_s, bd_s, bv_s, i32_nl, i32_n, i32_add, i32_sub, i32_mul, i32_neg, i32_ca, i32_cm, i32_cs, i32_cn, i32_le, i32_lt, i32_eq, i32_cl, Int.toNat_natCast, if_pos, if_neg, ite_true, ite_false, not_true_eq_false, not_false_eq_true, Nat.add_zero, Nat.zero_add, Nat.add_sub_cancel, ck_p, cko_si, cka_si, cko_sl, cka_sl, gi_e, gi_x, gl_e, gl_x, gr_si, gl_si, gi_sl, gr_sl, cko_c hm.k (show 3 ∈ [3] by decide), dr_c hm.r2, dr_c hm.r9, dr_c hm.r10, dr_c hm.r11, dr_c hm.r12, dr_c hm.r13, dr_c hm.r14, dr_c hm.r15, dr_c hm.r16, dr_c hm.r21, dr_c hm.r23, dr_c hm.r24, dr_c hm.r27, dr_c hm.r28, dr_c hm.r30, dr_c hm.r33, dr_c hm.r34, dr_c hm.r36, dr_c hm.r37, dr_c hm.r38, dr_c hm.r41, dr_c hm.r43, dr_c hm.r44, dr_c hm.r45, dr_c hm.r46, dr_c hm.r47, dr_c hm.r50, dr_c hm.r51, dr_c hm.r52, cka_i hm.k162 hm.l162, cka_i hm.k163 hm.l163, cka_i hm.k164 hm.l164, cka_i hm.k165 hm.l165, cka_i hm.k166 hm.l166, cka_i hm.k167 hm.l167, cka_i hm.k168 hm.l168, cka_i hm.k169 hm.l169, cka_i hm.k170 hm.l170, cka_i hm.k171 hm.l171, cka_i hm.k172 hm.l172, cka_i hm.k173 hm.l173, cka_i hm.k174 hm.l174, cka_i hm.k175 hm.l175, cka_i hm.k176 hm.l176, cka_i hm.k177 hm.l177, cka_i hm.k178 hm.l178, cka_i hm.k179 hm.l179, cka_i hm.k180 hm.l180, cka_i hm.k181 hm.l181, cka_i hm.k182 hm.l182, cka_i hm.k183 hm.l183, cka_i hm.k184 hm.l184, cka_i hm.k185 hm.l185, cka_i hm.k186 hm.l186, cka_i hm.k187 hm.l187, cka_i hm.k188 hm.l188, cka_i hm.k189 hm.l189, cka_i hm.k190 hm.l190, h29]
    refine ⟨_, rfl, rfl, ?_⟩
    have F : Fr (KM [0, 5]) 0 0 σ (si σ 161 29 (i32 (S.und.length + 1 : Nat))) := Fr.rf.wm 5 rfl (by decide)
    refine ⟨h.uUnd F (key _ F ?_ (fun j hj => ?_)), F⟩
    · simp (disch := omega) only [cko_si, cka_si, cko_sl, cka_sl, gi_e, gi_x, gl_e, gl_x, gr_si, gl_si, gi_sl, gr_sl]
      rw [hl]; congr 2; omega
    · simp (disch := omega) only [cko_si, cka_si, cko_sl, cka_sl, gi_e, gi_x, gl_e, gl_x, gr_si, gl_si, gi_sl, gr_sl]
      congr 1; omega
  · have e15 : S.und.length = 15 := by omega
    simp (disch := omega) only [vl_s, bp_s, bd_s, bv_s, i32_nl, i32_n, i32_add, i32_sub, i32_mul, i32_neg, i32_ca, i32_cm, i32_cs, i32_cn, i32_le, i32_lt, i32_eq, i32_cl, Int.toNat_natCast, if_pos, if_neg, ite_true, ite_false, not_true_eq_false, not_false_eq_true, Nat.add_zero, Nat.zero_add, Nat.add_sub_cancel, ck_p, cko_si, cka_si, cko_sl, cka_sl, gi_e, gi_x, gl_e, gl_x, gr_si, gl_si, gi_sl, gr_sl, cko_c hm.k (show 3 ∈ [3] by decide), dr_c hm.r2, dr_c hm.r9, dr_c hm.r10, dr_c hm.r11, dr_c hm.r12, dr_c hm.r13, dr_c hm.r14, dr_c hm.r15, dr_c hm.r16, dr_c hm.r21, dr_c hm.r23, dr_c hm.r24, dr_c hm.r27, dr_c hm.r28, dr_c hm.r30, dr_c hm.r33, dr_c hm.r34, dr_c hm.r36, dr_c hm.r37, dr_c hm.r38, dr_c hm.r41, dr_c hm.r43, dr_c hm.r44, dr_c hm.r45, dr_c hm.r46, dr_c hm.r47, dr_c hm.r50, dr_c hm.r51, dr_c hm.r52, cka_i hm.k162 hm.l162, cka_i hm.k163 hm.l163, cka_i hm.k164 hm.l164, cka_i hm.k165 hm.l165, cka_i hm.k166 hm.l166, cka_i hm.k167 hm.l167, cka_i hm.k168 hm.l168, cka_i hm.k169 hm.l169, cka_i hm.k170 hm.l170, cka_i hm.k171 hm.l171, cka_i hm.k172 hm.l172, cka_i hm.k173 hm.l173, cka_i hm.k174 hm.l174, cka_i hm.k175 hm.l175, cka_i hm.k176 hm.l176, cka_i hm.k177 hm.l177, cka_i hm.k178 hm.l178, cka_i hm.k179 hm.l179, cka_i hm.k180 hm.l180, cka_i hm.k181 hm.l181, cka_i hm.k182 hm.l182, cka_i hm.k183 hm.l183, cka_i hm.k184 hm.l184, cka_i hm.k185 hm.l185, cka_i hm.k186 hm.l186, cka_i hm.k187 hm.l187, cka_i hm.k188 hm.l188, cka_i hm.k189 hm.l189, cka_i hm.k190 hm.l190, h29]
    refine loop2 (F := f_X3_adds_21 161 x _) 855 (fun k σ1 v => v = i32 k ∧ ML σ1 ∧ gi σ1 161 29 = i32 (16 : Nat) ∧ Fr (KM [0, 5]) 0 0 σ σ1 ∧ (∀ j, j < k → gi σ1 176 j = gi σ 176 (j + 57)) ∧ ∀ j, k ≤ j → gi σ1 176 j = gi σ 176 j) ?_ FU 0 _ _ (by omega) ⟨rfl, hm, ?_, Fr.rf.wm 5 rfl (by decide), fun j hj => by omega, fun j hj => ?_⟩ (by unfold FU; omega)
    · rintro n k σ1 v hk2 ⟨rfl, h1, h29, F1, hc1, hc2⟩ IH
      rw [f_X3_adds_21.eq_2]
      by_cases hc : k < 855
      · simp (disch := omega) only [vl_s, bp_s, bd_s, bv_s, i32_nl, i32_n, i32_add, i32_sub, i32_mul, i32_neg, i32_ca, i32_cm, i32_cs, i32_cn, i32_le, i32_lt, i32_eq, i32_cl, Int.toNat_natCast, if_pos, if_neg, ite_true, ite_false, not_true_eq_false, not_false_eq_true, Nat.add_zero, Nat.zero_add, Nat.add_sub_cancel, ck_p, cko_si, cka_si, cko_sl, cka_sl, gi_e, gi_x, gl_e, gl_x, gr_si, gl_si, gi_sl, gr_sl, cko_c h1.k (show 3 ∈ [3] by decide), dr_c h1.r2, dr_c h1.r9, dr_c h1.r10, dr_c h1.r11, dr_c h1.r12, dr_c h1.r13, dr_c h1.r14, dr_c h1.r15, dr_c h1.r16, dr_c h1.r21, dr_c h1.r23, dr_c h1.r24, dr_c h1.r27, dr_c h1.r28, dr_c h1.r30, dr_c h1.r33, dr_c h1.r34, dr_c h1.r36, dr_c h1.r37, dr_c h1.r38, dr_c h1.r41, dr_c h1.r43, dr_c h1.r44, dr_c h1.r45, dr_c h1.r46, dr_c h1.r47, dr_c h1.r50, dr_c h1.r51, dr_c h1.r52, cka_i h1.k162 h1.l162, cka_i h1.k163 h1.l163, cka_i h1.k164 h1.l164, cka_i h1.k165 h1.l165, cka_i h1.k166 h1.l166, cka_i h1.k167 h1.l167, cka_i h1.k168 h1.l168, cka_i h1.k169 h1.l169, cka_i h1.k170 h1.l170, cka_i h1.k171 h1.l171, cka_i h1.k172 h1.l172, cka_i h1.k173 h1.l173, cka_i h1.k174 h1.l174, cka_i h1.k175 h1.l175, cka_i h1.k176 h1.l176, cka_i h1.k177 h1.l177, cka_i h1.k178 h1.l178, cka_i h1.k179 h1.l179, cka_i h1.k180 h1.l180, cka_i h1.k181 h1.l181, cka_i h1.k182 h1.l182, cka_i h1.k183 h1.l183, cka_i h1.k184 h1.l184, cka_i h1.k185 h1.l185, cka_i h1.k186 h1.l186, cka_i h1.k187 h1.l187, cka_i h1.k188 h1.l188, cka_i h1.k189 h1.l189, cka_i h1.k190 h1.l190]
        refine IH hc _ _ ⟨rfl, h1, ?_, F1.wm 5 rfl (by decide), fun j hj => ?_, fun j hj => ?_⟩
        · simp (disch := omega) only [cko_si, cka_si, cko_sl, cka_sl, gi_e, gi_x, gl_e, gl_x, gr_si, gl_si, gi_sl, gr_sl]; exact h29
        · by_cases hjk : j = k
          · subst hjk
            simp (disch := omega) only [cko_si, cka_si, cko_sl, cka_sl, gi_e, gi_x, gl_e, gl_x, gr_si, gl_si, gi_sl, gr_sl]
            exact hc2 _ (by omega)
          · simp (disch := omega) only [cko_si, cka_si, cko_sl, cka_sl, gi_e, gi_x, gl_e, gl_x, gr_si, gl_si, gi_sl, gr_sl]
            exact hc1 j (by omega)
        · simp (disch := omega) only [cko_si, cka_si, cko_sl, cka_sl, gi_e, gi_x, gl_e, gl_x, gr_si, gl_si, gi_sl, gr_sl]
          exact hc2 j (by omega)
      · have : k = 855 := by omega
        subst this
        simp (disch := omega) only [vl_s, bp_s, bd_s, bv_s, i32_nl, i32_n, i32_add, i32_sub, i32_mul, i32_neg, i32_ca, i32_cm, i32_cs, i32_cn, i32_le, i32_lt, i32_eq, i32_cl, Int.toNat_natCast, if_pos, if_neg, ite_true, ite_false, not_true_eq_false, not_false_eq_true, Nat.add_zero, Nat.zero_add, Nat.add_sub_cancel, ck_p, cko_si, cka_si, cko_sl, cka_sl, gi_e, gi_x, gl_e, gl_x, gr_si, gl_si, gi_sl, gr_sl, cko_c h1.k (show 3 ∈ [3] by decide), dr_c h1.r2, dr_c h1.r9, dr_c h1.r10, dr_c h1.r11, dr_c h1.r12, dr_c h1.r13, dr_c h1.r14, dr_c h1.r15, dr_c h1.r16, dr_c h1.r21, dr_c h1.r23, dr_c h1.r24, dr_c h1.r27, dr_c h1.r28, dr_c h1.r30, dr_c h1.r33, dr_c h1.r34, dr_c h1.r36, dr_c h1.r37, dr_c h1.r38, dr_c h1.r41, dr_c h1.r43, dr_c h1.r44, dr_c h1.r45, dr_c h1.r46, dr_c h1.r47, dr_c h1.r50, dr_c h1.r51, dr_c h1.r52, cka_i h1.k162 h1.l162, cka_i h1.k163 h1.l163, cka_i h1.k164 h1.l164, cka_i h1.k165 h1.l165, cka_i h1.k166 h1.l166, cka_i h1.k167 h1.l167, cka_i h1.k168 h1.l168, cka_i h1.k169 h1.l169, cka_i h1.k170 h1.l170, cka_i h1.k171 h1.l171, cka_i h1.k172 h1.l172, cka_i h1.k173 h1.l173, cka_i h1.k174 h1.l174, cka_i h1.k175 h1.l175, cka_i h1.k176 h1.l176, cka_i h1.k177 h1.l177, cka_i h1.k178 h1.l178, cka_i h1.k179 h1.l179, cka_i h1.k180 h1.l180, cka_i h1.k181 h1.l181, cka_i h1.k182 h1.l182, cka_i h1.k183 h1.l183, cka_i h1.k184 h1.l184, cka_i h1.k185 h1.l185, cka_i h1.k186 h1.l186, cka_i h1.k187 h1.l187, cka_i h1.k188 h1.l188, cka_i h1.k189 h1.l189, cka_i h1.k190 h1.l190, h29]
        have F : Fr (KM [0, 5]) 0 0 σ (si σ1 161 29 (i32 (16 - 1 : Nat))) := F1.wm 5 rfl (by decide)
        refine ⟨_, rfl, rfl, h.uUnd F (key _ F ?_ (fun j hj => ?_)), F⟩
        · simp (disch := omega) only [cko_si, cka_si, cko_sl, cka_sl, gi_e, gi_x, gl_e, gl_x, gr_si, gl_si, gi_sl, gr_sl]
          rw [hl]; congr 2; omega
        · simp (disch := omega) only [cko_si, cka_si, cko_sl, cka_sl, gi_e, gi_x, gl_e, gl_x, gr_si, gl_si, gi_sl, gr_sl]
          rw [hc1 j (by omega)]
          congr 1; omega
    · simp (disch := omega) only [cko_si, cka_si, cko_sl, cka_sl, gi_e, gi_x, gl_e, gl_x, gr_si, gl_si, gi_sl, gr_sl]
      rw [e15]
    · simp (disch := omega) only [cko_si, cka_si, cko_sl, cka_sl, gi_e, gi_x, gl_e, gl_x, gr_si, gl_si, gi_sl, gr_sl]
