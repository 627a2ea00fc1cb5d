/-! THE MODEL: texts gone through -/
set_option maxRecDepth 100000
def K18 (b j : Nat) : Prop := ¬ (b = 161 ∧ j = 18)
theorem K18_M (b j : Nat) (h : KM [0] b j) : K18 b j := fun e => h (by obtain ⟨rfl, rfl⟩ := e; decide)
/-- the model at a place of a text; S is its state but for the text, which counts no longer -/
def CurM (S : St) (s : Txt) (e : Nat) (σ : vMem) (p : Nat) : Prop := RM S σ ∧ (∀ k, k < s.1 → gi σ 170 k = i32 (s.2 k)) ∧ gi σ 161 18 = i32 p ∧ gi σ 161 19 = i32 e ∧ p ≤ e ∧ e ≤ s.1 ∧ gTxt s
section CURM
variable {S : St} {s : Txt} {e p : Nat} {σ σ1 : vMem}
theorem CurM.go {q : Nat} (h : CurM S s e σ p) (F : Fr K18 0 0 σ σ1) (hq : gi σ1 161 18 = i32 q) (hqe : q ≤ e) : CurM S s e σ1 q := by
  have hn := h.1.mn
  refine ⟨h.1.u0 (F.mono K18_M), fun k hk => ?_, hq, ?_, hqe, h.2.2.2.2.2⟩
  · rw [F.i (by omega) (by rintro ⟨q, -⟩; exact absurd q (by decide))]; exact h.2.1 k hk
  · rw [F.i (by omega) (by rintro ⟨-, q⟩; exact absurd q (by decide))]; exact h.2.2.2.1
end CURM
/-- whether a sign stands there -/
def tkB (s : Txt) (e p : Nat) (c : Int) : Bool := decide (p < e ∧ s.2 p = c)
def dgB (s : Txt) (e p : Nat) : Bool := decide (p < e ∧ 48 ≤ s.2 p ∧ s.2 p ≤ 57)
theorem nar_b (b : Bool) : narrow .boolean (.int (bI b)) = .int (bI b) := by cases b <;> rfl
theorem ck_nb {α : Type} {b : Bool} {t : Option α} : ck (narrow .boolean (.int (bI b)) = .int (bI b)) t = t := if_pos (nar_b b)
theorem ck_n0 {α : Type} {t : Option α} : ck (narrow .boolean (.int (i32 ((0 : Nat) : Int))) = .int (i32 ((0 : Nat) : Int))) t = t := if_pos rfl
theorem ck_n1 {α : Type} {t : Option α} : ck (narrow .boolean (.int (i32 ((1 : Nat) : Int))) = .int (i32 ((1 : Nat) : Int))) t = t := if_pos rfl
theorem M_begins {S : St} {σ : vMem} {B : Int} {most : Nat} (h : RM S σ) (g : gSt B S) (hm80 : most ≤ 80) : ok (f_X3_begins σ 161 (i32 most)) (fun r => r.1 = i32 S.txt.1 ∧ CurM (S.wTxt (0, S.txt.2)) S.txt (min S.txt.1 most) r.2 0 ∧ gi r.2 161 20 = i32 ((0 : Nat) : Int) ∧ Fr (KM [0, 6]) 0 0 σ r.2) := by
  have hm := h.ml
  have e17 := h.txt.1
  have g80 := g.txt.1
  unfold f_X3_begins
  (try simp (disch := omega) only [vl_s, bp_s, bd_s, bv_s, i32_nl, i32_n, i32_add, i32_sub, i32_mul, i32_neg, i32_ca, i32_cm, i32_cs, i32_cn, i32_le, i32_lt, i32_eq, i32_cl, Int.toNat_natCast, if_pos, if_neg, ite_true, ite_false, not_true_eq_false, not_false_eq_true, Nat.add_zero, Nat.zero_add, Nat.add_sub_cancel, ck_p, cko_si, cka_si, cko_sl, cka_sl, gi_e, gi_x, gl_e, gl_x, gr_si, gl_si, gi_sl, gr_sl, cko_c hm.k (show 3 ∈ [3] by decide), dr_c hm.r2, dr_c hm.r9, dr_c hm.r10, dr_c hm.r11, dr_c hm.r12, dr_c hm.r13, dr_c hm.r14, dr_c hm.r15, dr_c hm.r16, dr_c hm.r21, dr_c hm.r23, dr_c hm.r24, dr_c hm.r27, dr_c hm.r28, dr_c hm.r30, dr_c hm.r33, dr_c hm.r34, dr_c hm.r36, dr_c hm.r37, dr_c hm.r38, dr_c hm.r41, dr_c hm.r43, dr_c hm.r44, dr_c hm.r45, dr_c hm.r46, dr_c hm.r47, dr_c hm.r50, dr_c hm.r51, dr_c hm.r52, cka_i hm.k162 hm.l162, cka_i hm.k163 hm.l163, cka_i hm.k164 hm.l164, cka_i hm.k165 hm.l165, cka_i hm.k166 hm.l166, cka_i hm.k167 hm.l167, cka_i hm.k168 hm.l168, cka_i hm.k169 hm.l169, cka_i hm.k170 hm.l170, cka_i hm.k171 hm.l171, cka_i hm.k172 hm.l172, cka_i hm.k173 hm.l173, cka_i hm.k174 hm.l174, cka_i hm.k175 hm.l175, cka_i hm.k176 hm.l176, cka_i hm.k177 hm.l177, cka_i hm.k178 hm.l178, cka_i hm.k179 hm.l179, cka_i hm.k180 hm.l180, cka_i hm.k181 hm.l181, cka_i hm.k182 hm.l182, cka_i hm.k183 hm.l183, cka_i hm.k184 hm.l184, cka_i hm.k185 hm.l185, cka_i hm.k186 hm.l186, cka_i hm.k187 hm.l187, cka_i hm.k188 hm.l188, cka_i hm.k189 hm.l189, cka_i hm.k190 hm.l190, e17])
  have em : imin (i32 S.txt.1) (i32 most) = i32 (min S.txt.1 most : Nat) := by
    rw [imin_i (by omega) (by omega) (by omega) (by omega)]
    congr 1; omega
  rw [em]
  generalize hσ : si (si (si (si σ 161 17 (i32 ((0 : Nat) : Int))) 161 18 (i32 ((0 : Nat) : Int))) 161 20 (i32 ((0 : Nat) : Int))) 161 19 (i32 (min S.txt.1 most : Nat)) = σ1
  have F : Fr (KM [0, 6]) 0 0 σ σ1 := by
    rw [← hσ]
    exact (((Fr.rf.wm 6 rfl (by decide)).wm 0 rfl (by decide)).wm 0 rfl (by decide)).wm 0 rfl (by decide)
  have r : RM (S.wTxt (0, S.txt.2)) σ1 := h.uTxt F ⟨by subst hσ; simp (disch := omega) only [cko_si, cka_si, cko_sl, cka_sl, gi_e, gi_x, gl_e, gl_x, gr_si, gl_si, gi_sl, gr_sl], fun k hk => by cases hk⟩
  refine ok_some ⟨rfl, ⟨r, fun k hk => ?_, ?_, ?_, Nat.zero_le _, Nat.min_le_left _ _, g.txt⟩, ?_, F⟩
  · subst hσ; simp (disch := omega) only [cko_si, cka_si, cko_sl, cka_sl, gi_e, gi_x, gl_e, gl_x, gr_si, gl_si, gi_sl, gr_sl]; exact h.txt.2 k hk
  · subst hσ; simp (disch := omega) only [cko_si, cka_si, cko_sl, cka_sl, gi_e, gi_x, gl_e, gl_x, gr_si, gl_si, gi_sl, gr_sl]
  · subst hσ; simp (disch := omega) only [cko_si, cka_si, cko_sl, cka_sl, gi_e, gi_x, gl_e, gl_x, gr_si, gl_si, gi_sl, gr_sl]
  · subst hσ; simp (disch := omega) only [cko_si, cka_si, cko_sl, cka_sl, gi_e, gi_x, gl_e, gl_x, gr_si, gl_si, gi_sl, gr_sl]
theorem M_takes {S : St} {s : Txt} {e p : Nat} {σ : vMem} {c : Int} (h : CurM S s e σ p) (c1 : 0 ≤ c) (c2 : c ≤ 255) : ok (f_X3_takes σ 161 (i32 c)) (fun r => r.1 = bI (tkB s e p c) ∧ CurM S s e r.2 (if tkB s e p c then p + 1 else p) ∧ Fr K18 0 0 σ r.2) := by
  have hm := h.1.ml
  obtain ⟨-, t1, e18, e19, pe, es, gt⟩ := id h
  have g80 := gt.1
  have go : ∀ q, q ≤ e → CurM S s e (si σ 161 18 (i32 (q : Nat))) q := fun q hq => h.go (Fr.rf.wi (fun k => k ⟨rfl, rfl⟩)) (gi_e ⟨rfl, rfl⟩) hq
  have gf : ∀ v, Fr K18 0 0 σ (si σ 161 18 v) := fun v => Fr.rf.wi (fun k => k ⟨rfl, rfl⟩)
  generalize hQ : (fun r : Int32 × vMem => r.1 = bI (tkB s e p c) ∧ CurM S s e r.2 (if tkB s e p c then p + 1 else p) ∧ Fr K18 0 0 σ r.2) = Q
  unfold f_X3_takes
  by_cases d : p < e
  · have tp := t1 p (by omega)
    have gp := gt.2 p (by omega)
    by_cases d2 : s.2 p = c
    · (try simp (disch := omega) only [vl_s, bp_s, bd_s, bv_s, i32_nl, i32_n, i32_add, i32_sub, i32_mul, i32_neg, i32_ca, i32_cm, i32_cs, i32_cn, i32_le, i32_lt, i32_eq, i32_cl, Int.toNat_natCast, if_pos, if_neg, ite_true, ite_false, not_true_eq_false, not_false_eq_true, Nat.add_zero, Nat.zero_add, Nat.add_sub_cancel, ck_p, cko_si, cka_si, cko_sl, cka_sl, gi_e, gi_x, gl_e, gl_x, gr_si, gl_si, gi_sl, gr_sl, cko_c hm.k (show 3 ∈ [3] by decide), dr_c hm.r2, dr_c hm.r9, dr_c hm.r10, dr_c hm.r11, dr_c hm.r12, dr_c hm.r13, dr_c hm.r14, dr_c hm.r15, dr_c hm.r16, dr_c hm.r21, dr_c hm.r23, dr_c hm.r24, dr_c hm.r27, dr_c hm.r28, dr_c hm.r30, dr_c hm.r33, dr_c hm.r34, dr_c hm.r36, dr_c hm.r37, dr_c hm.r38, dr_c hm.r41, dr_c hm.r43, dr_c hm.r44, dr_c hm.r45, dr_c hm.r46, dr_c hm.r47, dr_c hm.r50, dr_c hm.r51, dr_c hm.r52, cka_i hm.k162 hm.l162, cka_i hm.k163 hm.l163, cka_i hm.k164 hm.l164, cka_i hm.k165 hm.l165, cka_i hm.k166 hm.l166, cka_i hm.k167 hm.l167, cka_i hm.k168 hm.l168, cka_i hm.k169 hm.l169, cka_i hm.k170 hm.l170, cka_i hm.k171 hm.l171, cka_i hm.k172 hm.l172, cka_i hm.k173 hm.l173, cka_i hm.k174 hm.l174, cka_i hm.k175 hm.l175, cka_i hm.k176 hm.l176, cka_i hm.k177 hm.l177, cka_i hm.k178 hm.l178, cka_i hm.k179 hm.l179, cka_i hm.k180 hm.l180, cka_i hm.k181 hm.l181, cka_i hm.k182 hm.l182, cka_i hm.k183 hm.l183, cka_i hm.k184 hm.l184, cka_i hm.k185 hm.l185, cka_i hm.k186 hm.l186, cka_i hm.k187 hm.l187, cka_i hm.k188 hm.l188, cka_i hm.k189 hm.l189, cka_i hm.k190 hm.l190, e18, e19, tp, X3_flag0, X3_flag1, ck_n0, ck_n1])
      rw [← hQ, show tkB s e p c = true from decide_eq_true ⟨d, d2⟩]
      exact ok_some ⟨rfl, go _ (by omega), gf _⟩
    · (try simp (disch := omega) only [vl_s, bp_s, bd_s, bv_s, i32_nl, i32_n, i32_add, i32_sub, i32_mul, i32_neg, i32_ca, i32_cm, i32_cs, i32_cn, i32_le, i32_lt, i32_eq, i32_cl, Int.toNat_natCast, if_pos, if_neg, ite_true, ite_false, not_true_eq_false, not_false_eq_true, Nat.add_zero, Nat.zero_add, Nat.add_sub_cancel, ck_p, cko_si, cka_si, cko_sl, cka_sl, gi_e, gi_x, gl_e, gl_x, gr_si, gl_si, gi_sl, gr_sl, cko_c hm.k (show 3 ∈ [3] by decide), dr_c hm.r2, dr_c hm.r9, dr_c hm.r10, dr_c hm.r11, dr_c hm.r12, dr_c hm.r13, dr_c hm.r14, dr_c hm.r15, dr_c hm.r16, dr_c hm.r21, dr_c hm.r23, dr_c hm.r24, dr_c hm.r27, dr_c hm.r28, dr_c hm.r30, dr_c hm.r33, dr_c hm.r34, dr_c hm.r36, dr_c hm.r37, dr_c hm.r38, dr_c hm.r41, dr_c hm.r43, dr_c hm.r44, dr_c hm.r45, dr_c hm.r46, dr_c hm.r47, dr_c hm.r50, dr_c hm.r51, dr_c hm.r52, cka_i hm.k162 hm.l162, cka_i hm.k163 hm.l163, cka_i hm.k164 hm.l164, cka_i hm.k165 hm.l165, cka_i hm.k166 hm.l166, cka_i hm.k167 hm.l167, cka_i hm.k168 hm.l168, cka_i hm.k169 hm.l169, cka_i hm.k170 hm.l170, cka_i hm.k171 hm.l171, cka_i hm.k172 hm.l172, cka_i hm.k173 hm.l173, cka_i hm.k174 hm.l174, cka_i hm.k175 hm.l175, cka_i hm.k176 hm.l176, cka_i hm.k177 hm.l177, cka_i hm.k178 hm.l178, cka_i hm.k179 hm.l179, cka_i hm.k180 hm.l180, cka_i hm.k181 hm.l181, cka_i hm.k182 hm.l182, cka_i hm.k183 hm.l183, cka_i hm.k184 hm.l184, cka_i hm.k185 hm.l185, cka_i hm.k186 hm.l186, cka_i hm.k187 hm.l187, cka_i hm.k188 hm.l188, cka_i hm.k189 hm.l189, cka_i hm.k190 hm.l190, e18, e19, tp, X3_flag0, X3_flag1, ck_n0, ck_n1])
      rw [← hQ, show tkB s e p c = false from decide_eq_false (fun q => d2 q.2)]
      exact ok_some ⟨rfl, go _ (by omega), gf _⟩
  · (try simp (disch := omega) only [vl_s, bp_s, bd_s, bv_s, i32_nl, i32_n, i32_add, i32_sub, i32_mul, i32_neg, i32_ca, i32_cm, i32_cs, i32_cn, i32_le, i32_lt, i32_eq, i32_cl, Int.toNat_natCast, if_pos, if_neg, ite_true, ite_false, not_true_eq_false, not_false_eq_true, Nat.add_zero, Nat.zero_add, Nat.add_sub_cancel, ck_p, cko_si, cka_si, cko_sl, cka_sl, gi_e, gi_x, gl_e, gl_x, gr_si, gl_si, gi_sl, gr_sl, cko_c hm.k (show 3 ∈ [3] by decide), dr_c hm.r2, dr_c hm.r9, dr_c hm.r10, dr_c hm.r11, dr_c hm.r12, dr_c hm.r13, dr_c hm.r14, dr_c hm.r15, dr_c hm.r16, dr_c hm.r21, dr_c hm.r23, dr_c hm.r24, dr_c hm.r27, dr_c hm.r28, dr_c hm.r30, dr_c hm.r33, dr_c hm.r34, dr_c hm.r36, dr_c hm.r37, dr_c hm.r38, dr_c hm.r41, dr_c hm.r43, dr_c hm.r44, dr_c hm.r45, dr_c hm.r46, dr_c hm.r47, dr_c hm.r50, dr_c hm.r51, dr_c hm.r52, cka_i hm.k162 hm.l162, cka_i hm.k163 hm.l163, cka_i hm.k164 hm.l164, cka_i hm.k165 hm.l165, cka_i hm.k166 hm.l166, cka_i hm.k167 hm.l167, cka_i hm.k168 hm.l168, cka_i hm.k169 hm.l169, cka_i hm.k170 hm.l170, cka_i hm.k171 hm.l171, cka_i hm.k172 hm.l172, cka_i hm.k173 hm.l173, cka_i hm.k174 hm.l174, cka_i hm.k175 hm.l175, cka_i hm.k176 hm.l176, cka_i hm.k177 hm.l177, cka_i hm.k178 hm.l178, cka_i hm.k179 hm.l179, cka_i hm.k180 hm.l180, cka_i hm.k181 hm.l181, cka_i hm.k182 hm.l182, cka_i hm.k183 hm.l183, cka_i hm.k184 hm.l184, cka_i hm.k185 hm.l185, cka_i hm.k186 hm.l186, cka_i hm.k187 hm.l187, cka_i hm.k188 hm.l188, cka_i hm.k189 hm.l189, cka_i hm.k190 hm.l190, e18, e19, X3_flag0, X3_flag1, ck_n0, ck_n1])
    rw [← hQ, show tkB s e p c = false from decide_eq_false (fun q => d q.1)]
    exact ok_some ⟨rfl, go _ (by omega), gf _⟩
theorem M_isDigit {S : St} {s : Txt} {e p : Nat} {σ : vMem} (h : CurM S s e σ p) : f_X3_isDigit σ 161 = some (bI (dgB s e p)) := by
  have hm := h.1.ml
  obtain ⟨-, t1, e18, e19, pe, es, gt⟩ := h
  have g80 := gt.1
  unfold f_X3_isDigit
  by_cases d : p < e
  · have tp := t1 p (by omega)
    have gp := gt.2 p (by omega)
    by_cases d2 : 48 ≤ s.2 p ∧ s.2 p ≤ 57
    · simp (disch := omega) only [vl_s, bp_s, bd_s, bv_s, i32_nl, i32_n, i32_add, i32_sub, i32_mul, i32_neg, i32_ca, i32_cm, i32_cs, i32_cn, i32_le, i32_lt, i32_eq, i32_cl, Int.toNat_natCast, if_pos, if_neg, ite_true, ite_false, not_true_eq_false, not_false_eq_true, Nat.add_zero, Nat.zero_add, Nat.add_sub_cancel, ck_p, cko_c hm.k (show 3 ∈ [3] by decide), dr_c hm.r2, dr_c hm.r9, dr_c hm.r10, dr_c hm.r11, dr_c hm.r12, dr_c hm.r13, dr_c hm.r14, dr_c hm.r15, dr_c hm.r16, dr_c hm.r21, dr_c hm.r23, dr_c hm.r24, dr_c hm.r27, dr_c hm.r28, dr_c hm.r30, dr_c hm.r33, dr_c hm.r34, dr_c hm.r36, dr_c hm.r37, dr_c hm.r38, dr_c hm.r41, dr_c hm.r43, dr_c hm.r44, dr_c hm.r45, dr_c hm.r46, dr_c hm.r47, dr_c hm.r50, dr_c hm.r51, dr_c hm.r52, cka_i hm.k162 hm.l162, cka_i hm.k163 hm.l163, cka_i hm.k164 hm.l164, cka_i hm.k165 hm.l165, cka_i hm.k166 hm.l166, cka_i hm.k167 hm.l167, cka_i hm.k168 hm.l168, cka_i hm.k169 hm.l169, cka_i hm.k170 hm.l170, cka_i hm.k171 hm.l171, cka_i hm.k172 hm.l172, cka_i hm.k173 hm.l173, cka_i hm.k174 hm.l174, cka_i hm.k175 hm.l175, cka_i hm.k176 hm.l176, cka_i hm.k177 hm.l177, cka_i hm.k178 hm.l178, cka_i hm.k179 hm.l179, cka_i hm.k180 hm.l180, cka_i hm.k181 hm.l181, cka_i hm.k182 hm.l182, cka_i hm.k183 hm.l183, cka_i hm.k184 hm.l184, cka_i hm.k185 hm.l185, cka_i hm.k186 hm.l186, cka_i hm.k187 hm.l187, cka_i hm.k188 hm.l188, cka_i hm.k189 hm.l189, cka_i hm.k190 hm.l190, X3_inI, X1_inI, i32_64, b01_i0, b01_i1, i64_m1, i64_0, i64_1, i64_2, i64_3, i64_8, i64_9, i64_10, i64_12, i64_15, i64_18, i64_20, i64_24, i64_30, i64_39, i64_48, i64_57, i64_60, i64_99, i64_100, i64_999, i64_99999, e18, e19, tp]
      rw [show dgB s e p = true from decide_eq_true ⟨d, d2⟩]; rfl
    · simp (disch := omega) only [vl_s, bp_s, bd_s, bv_s, i32_nl, i32_n, i32_add, i32_sub, i32_mul, i32_neg, i32_ca, i32_cm, i32_cs, i32_cn, i32_le, i32_lt, i32_eq, i32_cl, Int.toNat_natCast, if_pos, if_neg, ite_true, ite_false, not_true_eq_false, not_false_eq_true, Nat.add_zero, Nat.zero_add, Nat.add_sub_cancel, ck_p, cko_c hm.k (show 3 ∈ [3] by decide), dr_c hm.r2, dr_c hm.r9, dr_c hm.r10, dr_c hm.r11, dr_c hm.r12, dr_c hm.r13, dr_c hm.r14, dr_c hm.r15, dr_c hm.r16, dr_c hm.r21, dr_c hm.r23, dr_c hm.r24, dr_c hm.r27, dr_c hm.r28, dr_c hm.r30, dr_c hm.r33, dr_c hm.r34, dr_c hm.r36, dr_c hm.r37, dr_c hm.r38, dr_c hm.r41, dr_c hm.r43, dr_c hm.r44, dr_c hm.r45, dr_c hm.r46, dr_c hm.r47, dr_c hm.r50, dr_c hm.r51, dr_c hm.r52, cka_i hm.k162 hm.l162, cka_i hm.k163 hm.l163, cka_i hm.k164 hm.l164, cka_i hm.k165 hm.l165, cka_i hm.k166 hm.l166, cka_i hm.k167 hm.l167, cka_i hm.k168 hm.l168, cka_i hm.k169 hm.l169, cka_i hm.k170 hm.l170, cka_i hm.k171 hm.l171, cka_i hm.k172 hm.l172, cka_i hm.k173 hm.l173, cka_i hm.k174 hm.l174, cka_i hm.k175 hm.l175, cka_i hm.k176 hm.l176, cka_i hm.k177 hm.l177, cka_i hm.k178 hm.l178, cka_i hm.k179 hm.l179, cka_i hm.k180 hm.l180, cka_i hm.k181 hm.l181, cka_i hm.k182 hm.l182, cka_i hm.k183 hm.l183, cka_i hm.k184 hm.l184, cka_i hm.k185 hm.l185, cka_i hm.k186 hm.l186, cka_i hm.k187 hm.l187, cka_i hm.k188 hm.l188, cka_i hm.k189 hm.l189, cka_i hm.k190 hm.l190, X3_inI, X1_inI, i32_64, b01_i0, b01_i1, i64_m1, i64_0, i64_1, i64_2, i64_3, i64_8, i64_9, i64_10, i64_12, i64_15, i64_18, i64_20, i64_24, i64_30, i64_39, i64_48, i64_57, i64_60, i64_99, i64_100, i64_999, i64_99999, e18, e19, tp]
      rw [show dgB s e p = false from decide_eq_false (fun q => d2 q.2)]; rfl
  · simp (disch := omega) only [vl_s, bp_s, bd_s, bv_s, i32_nl, i32_n, i32_add, i32_sub, i32_mul, i32_neg, i32_ca, i32_cm, i32_cs, i32_cn, i32_le, i32_lt, i32_eq, i32_cl, Int.toNat_natCast, if_pos, if_neg, ite_true, ite_false, not_true_eq_false, not_false_eq_true, Nat.add_zero, Nat.zero_add, Nat.add_sub_cancel, ck_p, cko_c hm.k (show 3 ∈ [3] by decide), dr_c hm.r2, dr_c hm.r9, dr_c hm.r10, dr_c hm.r11, dr_c hm.r12, dr_c hm.r13, dr_c hm.r14, dr_c hm.r15, dr_c hm.r16, dr_c hm.r21, dr_c hm.r23, dr_c hm.r24, dr_c hm.r27, dr_c hm.r28, dr_c hm.r30, dr_c hm.r33, dr_c hm.r34, dr_c hm.r36, dr_c hm.r37, dr_c hm.r38, dr_c hm.r41, dr_c hm.r43, dr_c hm.r44, dr_c hm.r45, dr_c hm.r46, dr_c hm.r47, dr_c hm.r50, dr_c hm.r51, dr_c hm.r52, cka_i hm.k162 hm.l162, cka_i hm.k163 hm.l163, cka_i hm.k164 hm.l164, cka_i hm.k165 hm.l165, cka_i hm.k166 hm.l166, cka_i hm.k167 hm.l167, cka_i hm.k168 hm.l168, cka_i hm.k169 hm.l169, cka_i hm.k170 hm.l170, cka_i hm.k171 hm.l171, cka_i hm.k172 hm.l172, cka_i hm.k173 hm.l173, cka_i hm.k174 hm.l174, cka_i hm.k175 hm.l175, cka_i hm.k176 hm.l176, cka_i hm.k177 hm.l177, cka_i hm.k178 hm.l178, cka_i hm.k179 hm.l179, cka_i hm.k180 hm.l180, cka_i hm.k181 hm.l181, cka_i hm.k182 hm.l182, cka_i hm.k183 hm.l183, cka_i hm.k184 hm.l184, cka_i hm.k185 hm.l185, cka_i hm.k186 hm.l186, cka_i hm.k187 hm.l187, cka_i hm.k188 hm.l188, cka_i hm.k189 hm.l189, cka_i hm.k190 hm.l190, e18, e19]
    rw [show dgB s e p = false from decide_eq_false (fun q => d q.1)]; rfl
/-- a number of so many digits at the most -/
def numL (s : Txt) (e : Nat) : Nat → Nat → Int → Int × Nat
  | 0, p, v => (v, p)
  | d + 1, p, v => if dgB s e p then numL s e d (p + 1) (10 * v + s.2 p - 48) else (v, p)
def numF (s : Txt) (e d p : Nat) : Int × Nat := if dgB s e p then numL s e d p 0 else (-1, p)
theorem numL_b (s : Txt) (e : Nat) : ∀ (d p : Nat) (v : Int), 0 ≤ v → p ≤ e → 0 ≤ (numL s e d p v).1 ∧ (numL s e d p v).1 + 1 ≤ (v + 1) * 10 ^ d ∧ p ≤ (numL s e d p v).2 ∧ (numL s e d p v).2 ≤ e
  | 0, p, v, hv, hp => by
    show 0 ≤ v ∧ v + 1 ≤ (v + 1) * 10 ^ 0 ∧ p ≤ p ∧ p ≤ e
    rw [Int.pow_zero, Int.mul_one]
    omega
  | d + 1, p, v, hv, hp => by
    have pw : (0 : Int) < 10 ^ d := Int.pow_pos (by decide)
    unfold numL
    by_cases c : dgB s e p = true
    · rw [if_pos c]
      have cc := of_decide_eq_true c
      have ih := numL_b s e d (p + 1) (10 * v + s.2 p - 48) (by omega) (by omega)
      have m1 : (10 * v + s.2 p - 48 + 1) * 10 ^ d ≤ ((v + 1) * 10) * 10 ^ d := Int.mul_le_mul_of_nonneg_right (by omega) (by omega)
      rw [Int.mul_assoc, ← Int.mul_comm (10 ^ d) 10, ← Int.pow_succ, Nat.succ_eq_add_one] at m1
      omega
    · rw [if_neg c]
      have m1 : (v + 1) * 1 ≤ (v + 1) * 10 ^ (d + 1) := Int.mul_le_mul_of_nonneg_left (by rw [Int.pow_succ]; omega) (by omega)
      show 0 ≤ v ∧ v + 1 ≤ (v + 1) * 10 ^ (d + 1) ∧ p ≤ p ∧ p ≤ e
      omega
