/-! THE MODEL'S ACTS: mutinies, fasting -/
set_option maxRecDepth 100000
def keepI (h b o v : Int) : Int := if b + o < v then h / 2 else h - b
theorem X3_keeps {σ : vMem} {h b o v : Int} (h1 : 0 ≤ h) (h2 : h ≤ 20) (b1 : 0 ≤ b) (b2 : b ≤ 20) (o1 : 0 ≤ o) (o2 : o ≤ 20) (v1 : 0 ≤ v) (v2 : v ≤ 20) : f_X3_keeps σ (i32 h) (i32 b) (i32 o) (i32 v) = some (i32 (keepI h b o v)) := by
  unfold f_X3_keeps keepI
  by_cases d : b + o < v
  · rw [if_pos d]
    simp (disch := omega) only [vl_s, bp_s, bd_s, bv_s, i32_nl, i32_n, i32_add, i32_sub, i32_mul, i32_neg, i32_ca, i32_cm, i32_cs, i32_cn, i32_le, i32_lt, i32_eq, i32_cl, Int.toNat_natCast, if_pos, if_neg, ite_true, ite_false, not_true_eq_false, not_false_eq_true, Nat.add_zero, Nat.zero_add, Nat.add_sub_cancel, ck_p, i32_div]
    rfl
  · rw [if_neg d]
    simp (disch := omega) only [vl_s, bp_s, bd_s, bv_s, i32_nl, i32_n, i32_add, i32_sub, i32_mul, i32_neg, i32_ca, i32_cm, i32_cs, i32_cn, i32_le, i32_lt, i32_eq, i32_cl, Int.toNat_natCast, if_pos, if_neg, ite_true, ite_false, not_true_eq_false, not_false_eq_true, Nat.add_zero, Nat.zero_add, Nat.add_sub_cancel, ck_p]
theorem keepI_b {h b o v : Int} (h1 : 0 ≤ h) (h2 : h ≤ 20) (b1 : 0 ≤ b) (b2 : b ≤ 20) : -20 ≤ keepI h b o v ∧ keepI h b o v ≤ 20 := by
  unfold keepI
  split <;> omega
/-- whether no bid of x first ones is better -/
def restB (h b o v : Int) : Nat → Bool
  | 0 => true
  | x + 1 => restB h b o v x && decide (keepI h x o v ≤ keepI h b o v)
theorem nar01 (v : Int32) (h : v = i32 ((0 : Nat) : Int) ∨ v = i32 ((1 : Nat) : Int)) : narrow .boolean (.int v) = .int v := by
  rcases h with rfl | rfl <;> rfl
theorem X3_isRest {σ : vMem} {h b o v : Int} (h1 : 1 ≤ h) (h2 : h ≤ 20) (b1 : 0 ≤ b) (b2 : b ≤ 20) (o1 : 0 ≤ o) (o2 : o ≤ 20) (v1 : 0 ≤ v) (v2 : v ≤ 20) : f_X3_isRest σ (i32 h) (i32 b) (i32 o) (i32 v) = some (if restB h b o v ((min 9 h).toNat + 1) then i32 ((1 : Nat) : Int) else i32 ((0 : Nat) : Int)) := by
  unfold f_X3_isRest
  refine ok_eq ?_
  have em : imin 9 (i32 h) = i32 (min 9 h) := imin_i (a := 9) (by omega) (by omega) (by omega) (by omega)
  refine loop2 (F := f_X3_isRest_6 σ (i32 h) (i32 b) (i32 o) (i32 v)) ((min 9 h).toNat + 1) (fun i a x => x = i32 i ∧ a = (if restB h b o v i then i32 ((1 : Nat) : Int) else i32 ((0 : Nat) : Int))) ?_ FU 0 _ _ (by omega) ⟨rfl, rfl⟩ (by unfold FU; omega)
  rintro m i a x hi ⟨rfl, rfl⟩ IH
  rw [f_X3_isRest_6.eq_2, em]
  by_cases d : i < (min 9 h).toNat + 1
  · have k1 := X3_keeps (σ := σ) (h := h) (b := i) (o := o) (v := v) (by omega) h2 (by omega) (by omega) o1 o2 v1 v2
    have k2 := X3_keeps (σ := σ) (h := h) (b := b) (o := o) (v := v) (by omega) h2 b1 b2 o1 o2 v1 v2
    have kb1 := keepI_b (h := h) (b := i) (o := o) (v := v) (by omega) h2 (by omega) (by omega)
    have kb2 := keepI_b (h := h) (b := b) (o := o) (v := v) (by omega) h2 b1 b2
    have er : restB h b o v (i + 1) = (restB h b o v i && decide (keepI h i o v ≤ keepI h b o v)) := rfl
    cases hr : restB h b o v i with
    | true =>
      simp only [if_true]
      by_cases e : keepI h i o v ≤ keepI h b o v
      · simp (disch := omega) only [vl_s, bp_s, bd_s, bv_s, i32_nl, i32_n, i32_add, i32_sub, i32_mul, i32_neg, i32_ca, i32_cm, i32_cs, i32_cn, i32_le, i32_lt, i32_eq, i32_cl, Int.toNat_natCast, if_pos, if_neg, ite_true, ite_false, not_true_eq_false, not_false_eq_true, Nat.add_zero, Nat.zero_add, Nat.add_sub_cancel, ck_p, k1, k2]
        exact IH d _ _ ⟨rfl, by rw [er, hr, decide_eq_true e]; rfl⟩
      · simp (disch := omega) only [vl_s, bp_s, bd_s, bv_s, i32_nl, i32_n, i32_add, i32_sub, i32_mul, i32_neg, i32_ca, i32_cm, i32_cs, i32_cn, i32_le, i32_lt, i32_eq, i32_cl, Int.toNat_natCast, if_pos, if_neg, ite_true, ite_false, not_true_eq_false, not_false_eq_true, Nat.add_zero, Nat.zero_add, Nat.add_sub_cancel, ck_p, k1, k2]
        exact IH d _ _ ⟨rfl, by rw [er, hr, decide_eq_false e]; rfl⟩
    | false =>
      simp only [Bool.false_eq_true, if_false]
      simp (disch := omega) only [vl_s, bp_s, bd_s, bv_s, i32_nl, i32_n, i32_add, i32_sub, i32_mul, i32_neg, i32_ca, i32_cm, i32_cs, i32_cn, i32_le, i32_lt, i32_eq, i32_cl, Int.toNat_natCast, if_pos, if_neg, ite_true, ite_false, not_true_eq_false, not_false_eq_true, Nat.add_zero, Nat.zero_add, Nat.add_sub_cancel, ck_p]
      exact IH d _ _ ⟨rfl, by rw [er, hr]; rfl⟩
  · have : i = (min 9 h).toNat + 1 := by omega
    subst this
    have hn := nar01 (if restB h b o v ((min 9 h).toNat + 1) then i32 ((1 : Nat) : Int) else i32 ((0 : Nat) : Int)) (by split; exact Or.inr rfl; exact Or.inl rfl)
    have c9 : i32 (min 9 h) < i32 (((min 9 h).toNat + 1 : Nat) : Int) := by rw [i32_lt (by omega) (by omega) (by omega) (by omega)]; omega
    rw [if_pos c9]
    unfold ck
    rw [if_pos hn]
    exact ok_some rfl
def mutB (a b v : Int) (x y : Nat) : Bool := restB a x y v ((min 9 a).toNat + 1) && restB b y x v ((min 9 b).toNat + 1)
/-- how many pairs of bids stand; what is told -/
def mutY (a b v : Int) (x : Nat) (q : Int × St) : Nat → Int × St
  | 0 => q
  | y + 1 => let r := mutY a b v x q y
    if mutB a b v x y then (r.1 + 1, if r.1 = 0 then rowA (rowA r.2 (Int32.toInt64 (i32 x))) (Int32.toInt64 (i32 y)) else r.2) else r
def mutX (a b v : Int) (q : Int × St) : Nat → Int × St
  | 0 => q
  | x + 1 => mutY a b v x (mutX a b v q x) ((min 9 b).toNat + 1)
def mutI (q : Int × St) (n : Int) : Prop := 0 ≤ q.1 ∧ q.1 ≤ n ∧ (q.1 = 0 → q.2.row.1 = 0)
theorem mutY_i {a b v : Int} {x : Nat} {q : Int × St} {n : Int} (h : mutI q n) : ∀ y : Nat, mutI (mutY a b v x q y) (n + y)
  | 0 => by
    show mutI q (n + ((0 : Nat) : Int))
    rw [Int.natCast_zero, Int.add_zero]
    exact h
  | y + 1 => by
    obtain ⟨i1, i2, i3⟩ := mutY_i (a := a) (b := b) (v := v) (x := x) h y
    unfold mutY
    dsimp only
    split
    · refine ⟨?_, ?_, fun q => ?_⟩
      · show 0 ≤ _ + (1 : Int); omega
      · show _ + (1 : Int) ≤ _; omega
      · have q : (mutY a b v x (by assumption) y).1 + 1 = 0 := q
        omega
    · exact ⟨i1, by omega, i3⟩
theorem mutX_i {a b v : Int} {q : Int × St} (hb : b ≤ 20) (h : mutI q 0) : ∀ x : Nat, mutI (mutX a b v q x) (10 * x)
  | 0 => by
    show mutI q (10 * ((0 : Nat) : Int))
    rw [Int.natCast_zero, Int.mul_zero]
    exact h
  | x + 1 => by
    have i := mutY_i (a := a) (b := b) (v := v) (x := x) (mutX_i (a := a) (b := b) (v := v) hb h x) ((min 9 b).toNat + 1)
    obtain ⟨i1, i2, i3⟩ := i
    exact ⟨i1, by show _ ≤ 10 * ((x + 1 : Nat) : Int); have : (((min 9 b).toNat + 1 : Nat) : Int) ≤ 10 := by omega
                  unfold mutX; omega, i3⟩
def aMutiny (S : St) (a b v : Int) : Int := if (1 ≤ a ∧ a ≤ 20) ∧ (1 ≤ b ∧ b ≤ 20) ∧ 1 ≤ v ∧ v ≤ 18 then (mutX a b v (0, row0 S) ((min 9 a).toNat + 1)).1 else -1
def nMutiny (S : St) (a b v : Int) : St := if (1 ≤ a ∧ a ≤ 20) ∧ (1 ≤ b ∧ b ≤ 20) ∧ 1 ≤ v ∧ v ≤ 18 then (mutX a b v (0, row0 S) ((min 9 a).toNat + 1)).2 else S
theorem M_mut68 {σ : vMem} {a b v n : Int} {x : Nat} {q : Int × St} {K : vMem → Int32 → Option (Int32 × vMem)} {Q : Int32 × vMem → Prop} (h : RM q.2 σ) (hq : mutI q n) (hn : n ≤ 100) (a1 : 1 ≤ a) (a2 : a ≤ 20) (b1 : 1 ≤ b) (b2 : b ≤ 20) (v1 : 1 ≤ v) (v2 : v ≤ 18) (hx : x ≤ 9) (hK : ∀ σ1, RM (mutY a b v x q ((min 9 b).toNat + 1)).2 σ1 → Fr (KM [7]) 0 0 σ σ1 → ok (K σ1 (i32 (mutY a b v x q ((min 9 b).toNat + 1)).1)) Q) : ok (f_X3_mutiny_68 161 (i32 a) (i32 b) (i32 v) (i32 x) K FU σ (i32 q.1) (i32 ((0 : Nat) : Int))) Q := by
  have em : imin 9 (i32 b) = i32 (min 9 b) := imin_i (a := 9) (by omega) (by omega) (by omega) (by omega)
  refine loop3 (F := f_X3_mutiny_68 161 (i32 a) (i32 b) (i32 v) (i32 x) K) ((min 9 b).toNat + 1) (fun y σ1 z w => w = i32 y ∧ z = i32 (mutY a b v x q y).1 ∧ RM (mutY a b v x q y).2 σ1 ∧ Fr (KM [7]) 0 0 σ σ1) ?_ FU 0 _ _ _ (by omega) ⟨rfl, rfl, h, Fr.rf⟩ (by unfold FU; omega)
  rintro m y σ1 z w hy ⟨rfl, rfl, q1, F1⟩ IH
  have hm1 := q1.ml
  obtain ⟨i1, i2, i3⟩ := mutY_i (a := a) (b := b) (v := v) (x := x) hq y
  rw [f_X3_mutiny_68.eq_2, em]
  by_cases d : y < (min 9 b).toNat + 1
  · have r1 := X3_isRest (σ := σ1) (h := a) (b := x) (o := y) (v := v) a1 a2 (by omega) (by omega) (by omega) (by omega) (by omega) (by omega)
    have r2 := X3_isRest (σ := σ1) (h := b) (b := y) (o := x) (v := v) b1 b2 (by omega) (by omega) (by omega) (by omega) (by omega) (by omega)
    have ey : mutY a b v x q (y + 1) = if mutB a b v x y then ((mutY a b v x q y).1 + 1, if (mutY a b v x q y).1 = 0 then rowA (rowA (mutY a b v x q y).2 (Int32.toInt64 (i32 x))) (Int32.toInt64 (i32 y)) else (mutY a b v x q y).2) else mutY a b v x q y := rfl
    unfold mutB at ey
    cases h1 : restB a x y v ((min 9 a).toNat + 1) with
    | false =>
      rw [h1] at r1 ey
      simp only [Bool.false_eq_true, if_false, Bool.false_and] at r1 ey
      simp (disch := omega) only [vl_s, bp_s, bd_s, bv_s, i32_nl, i32_n, i32_add, i32_sub, i32_mul, i32_neg, i32_ca, i32_cm, i32_cs, i32_cn, i32_le, i32_lt, i32_eq, i32_cl, Int.toNat_natCast, if_pos, if_neg, ite_true, ite_false, not_true_eq_false, not_false_eq_true, Nat.add_zero, Nat.zero_add, Nat.add_sub_cancel, ck_p, r1]
      exact IH d _ _ _ ⟨rfl, by rw [ey], by rw [ey]; exact q1, F1⟩
    | true =>
      rw [h1] at r1 ey
      cases h2 : restB b y x v ((min 9 b).toNat + 1) with
      | false =>
        rw [h2] at r2 ey
        simp only [Bool.false_eq_true, if_false, Bool.and_false, if_true] at r1 r2 ey
        simp (disch := omega) only [vl_s, bp_s, bd_s, bv_s, i32_nl, i32_n, i32_add, i32_sub, i32_mul, i32_neg, i32_ca, i32_cm, i32_cs, i32_cn, i32_le, i32_lt, i32_eq, i32_cl, Int.toNat_natCast, if_pos, if_neg, ite_true, ite_false, not_true_eq_false, not_false_eq_true, Nat.add_zero, Nat.zero_add, Nat.add_sub_cancel, ck_p, r1, r2]
        exact IH d _ _ _ ⟨rfl, by rw [ey], by rw [ey]; exact q1, F1⟩
      | true =>
        rw [h2] at r2 ey
        simp only [if_true, Bool.and_true] at r1 r2 ey
        by_cases e : (mutY a b v x q y).1 = 0
        · rw [if_pos e] at ey
          (try simp (disch := omega) only [vl_s, bp_s, bd_s, bv_s, i32_nl, i32_n, i32_add, i32_sub, i32_mul, i32_neg, i32_ca, i32_cm, i32_cs, i32_cn, i32_le, i32_lt, i32_eq, i32_cl, Int.toNat_natCast, if_pos, if_neg, ite_true, ite_false, not_true_eq_false, not_false_eq_true, Nat.add_zero, Nat.zero_add, Nat.add_sub_cancel, ck_p, cko_si, cka_si, cko_sl, cka_sl, gi_e, gi_x, gl_e, gl_x, gr_si, gl_si, gi_sl, gr_sl, cko_c hm1.k (show 3 ∈ [3] by decide), dr_c hm1.r2, dr_c hm1.r9, dr_c hm1.r10, dr_c hm1.r11, dr_c hm1.r12, dr_c hm1.r13, dr_c hm1.r14, dr_c hm1.r15, dr_c hm1.r16, dr_c hm1.r21, dr_c hm1.r23, dr_c hm1.r24, dr_c hm1.r27, dr_c hm1.r28, dr_c hm1.r30, dr_c hm1.r33, dr_c hm1.r34, dr_c hm1.r36, dr_c hm1.r37, dr_c hm1.r38, dr_c hm1.r41, dr_c hm1.r43, dr_c hm1.r44, dr_c hm1.r45, dr_c hm1.r46, dr_c hm1.r47, dr_c hm1.r50, dr_c hm1.r51, dr_c hm1.r52, cka_i hm1.k162 hm1.l162, cka_i hm1.k163 hm1.l163, cka_i hm1.k164 hm1.l164, cka_i hm1.k165 hm1.l165, cka_i hm1.k166 hm1.l166, cka_i hm1.k167 hm1.l167, cka_i hm1.k168 hm1.l168, cka_i hm1.k169 hm1.l169, cka_i hm1.k170 hm1.l170, cka_i hm1.k171 hm1.l171, cka_i hm1.k172 hm1.l172, cka_i hm1.k173 hm1.l173, cka_i hm1.k174 hm1.l174, cka_i hm1.k175 hm1.l175, cka_i hm1.k176 hm1.l176, cka_i hm1.k177 hm1.l177, cka_i hm1.k178 hm1.l178, cka_i hm1.k179 hm1.l179, cka_i hm1.k180 hm1.l180, cka_i hm1.k181 hm1.l181, cka_i hm1.k182 hm1.l182, cka_i hm1.k183 hm1.l183, cka_i hm1.k184 hm1.l184, cka_i hm1.k185 hm1.l185, cka_i hm1.k186 hm1.l186, cka_i hm1.k187 hm1.l187, cka_i hm1.k188 hm1.l188, cka_i hm1.k189 hm1.l189, cka_i hm1.k190 hm1.l190, r1, r2])
          have ir := i3 e
          refine ok_bv (M_enters q1 (by omega) _) ?_
          rintro σ2 ⟨q2, F2⟩
          have hm2 := q2.ml
          (try simp (disch := omega) only [vl_s, bp_s, bd_s, bv_s, i32_nl, i32_n, i32_add, i32_sub, i32_mul, i32_neg, i32_ca, i32_cm, i32_cs, i32_cn, i32_le, i32_lt, i32_eq, i32_cl, Int.toNat_natCast, if_pos, if_neg, ite_true, ite_false, not_true_eq_false, not_false_eq_true, Nat.add_zero, Nat.zero_add, Nat.add_sub_cancel, ck_p, cko_si, cka_si, cko_sl, cka_sl, gi_e, gi_x, gl_e, gl_x, gr_si, gl_si, gi_sl, gr_sl, cko_c hm2.k (show 3 ∈ [3] by decide), dr_c hm2.r2, dr_c hm2.r9, dr_c hm2.r10, dr_c hm2.r11, dr_c hm2.r12, dr_c hm2.r13, dr_c hm2.r14, dr_c hm2.r15, dr_c hm2.r16, dr_c hm2.r21, dr_c hm2.r23, dr_c hm2.r24, dr_c hm2.r27, dr_c hm2.r28, dr_c hm2.r30, dr_c hm2.r33, dr_c hm2.r34, dr_c hm2.r36, dr_c hm2.r37, dr_c hm2.r38, dr_c hm2.r41, dr_c hm2.r43, dr_c hm2.r44, dr_c hm2.r45, dr_c hm2.r46, dr_c hm2.r47, dr_c hm2.r50, dr_c hm2.r51, dr_c hm2.r52, cka_i hm2.k162 hm2.l162, cka_i hm2.k163 hm2.l163, cka_i hm2.k164 hm2.l164, cka_i hm2.k165 hm2.l165, cka_i hm2.k166 hm2.l166, cka_i hm2.k167 hm2.l167, cka_i hm2.k168 hm2.l168, cka_i hm2.k169 hm2.l169, cka_i hm2.k170 hm2.l170, cka_i hm2.k171 hm2.l171, cka_i hm2.k172 hm2.l172, cka_i hm2.k173 hm2.l173, cka_i hm2.k174 hm2.l174, cka_i hm2.k175 hm2.l175, cka_i hm2.k176 hm2.l176, cka_i hm2.k177 hm2.l177, cka_i hm2.k178 hm2.l178, cka_i hm2.k179 hm2.l179, cka_i hm2.k180 hm2.l180, cka_i hm2.k181 hm2.l181, cka_i hm2.k182 hm2.l182, cka_i hm2.k183 hm2.l183, cka_i hm2.k184 hm2.l184, cka_i hm2.k185 hm2.l185, cka_i hm2.k186 hm2.l186, cka_i hm2.k187 hm2.l187, cka_i hm2.k188 hm2.l188, cka_i hm2.k189 hm2.l189, cka_i hm2.k190 hm2.l190])
          refine ok_bv (M_enters q2 (by show (mutY a b v x q y).2.row.1 + 1 < 40; omega) _) ?_
          rintro σ3 ⟨q3, F3⟩
          exact IH d _ _ _ ⟨rfl, by rw [ey]; rfl, by rw [ey]; exact q3, (F1.tr0 F2).tr0 F3⟩
        · rw [if_neg e] at ey
          (try simp (disch := omega) only [vl_s, bp_s, bd_s, bv_s, i32_nl, i32_n, i32_add, i32_sub, i32_mul, i32_neg, i32_ca, i32_cm, i32_cs, i32_cn, i32_le, i32_lt, i32_eq, i32_cl, Int.toNat_natCast, if_pos, if_neg, ite_true, ite_false, not_true_eq_false, not_false_eq_true, Nat.add_zero, Nat.zero_add, Nat.add_sub_cancel, ck_p, cko_si, cka_si, cko_sl, cka_sl, gi_e, gi_x, gl_e, gl_x, gr_si, gl_si, gi_sl, gr_sl, cko_c hm1.k (show 3 ∈ [3] by decide), dr_c hm1.r2, dr_c hm1.r9, dr_c hm1.r10, dr_c hm1.r11, dr_c hm1.r12, dr_c hm1.r13, dr_c hm1.r14, dr_c hm1.r15, dr_c hm1.r16, dr_c hm1.r21, dr_c hm1.r23, dr_c hm1.r24, dr_c hm1.r27, dr_c hm1.r28, dr_c hm1.r30, dr_c hm1.r33, dr_c hm1.r34, dr_c hm1.r36, dr_c hm1.r37, dr_c hm1.r38, dr_c hm1.r41, dr_c hm1.r43, dr_c hm1.r44, dr_c hm1.r45, dr_c hm1.r46, dr_c hm1.r47, dr_c hm1.r50, dr_c hm1.r51, dr_c hm1.r52, cka_i hm1.k162 hm1.l162, cka_i hm1.k163 hm1.l163, cka_i hm1.k164 hm1.l164, cka_i hm1.k165 hm1.l165, cka_i hm1.k166 hm1.l166, cka_i hm1.k167 hm1.l167, cka_i hm1.k168 hm1.l168, cka_i hm1.k169 hm1.l169, cka_i hm1.k170 hm1.l170, cka_i hm1.k171 hm1.l171, cka_i hm1.k172 hm1.l172, cka_i hm1.k173 hm1.l173, cka_i hm1.k174 hm1.l174, cka_i hm1.k175 hm1.l175, cka_i hm1.k176 hm1.l176, cka_i hm1.k177 hm1.l177, cka_i hm1.k178 hm1.l178, cka_i hm1.k179 hm1.l179, cka_i hm1.k180 hm1.l180, cka_i hm1.k181 hm1.l181, cka_i hm1.k182 hm1.l182, cka_i hm1.k183 hm1.l183, cka_i hm1.k184 hm1.l184, cka_i hm1.k185 hm1.l185, cka_i hm1.k186 hm1.l186, cka_i hm1.k187 hm1.l187, cka_i hm1.k188 hm1.l188, cka_i hm1.k189 hm1.l189, cka_i hm1.k190 hm1.l190, r1, r2])
          exact IH d _ _ _ ⟨rfl, by rw [ey]; rfl, by rw [ey]; exact q1, F1⟩
  · have : y = (min 9 b).toNat + 1 := by omega
    subst this
    have c9 : i32 (min 9 b) < i32 (((min 9 b).toNat + 1 : Nat) : Int) := by rw [i32_lt (by omega) (by omega) (by omega) (by omega)]; omega
    rw [if_pos c9]
    exact hK σ1 q1 F1
theorem M_mutiny {S : St} {σ : vMem} {a b v : Int} (h : RM S σ) (h1 : -2147483648 ≤ a) (h2 : a < 2147483648) (h3 : -2147483648 ≤ b) (h4 : b < 2147483648) (h5 : -2147483648 ≤ v) (h6 : v < 2147483648) : ok (f_X3_mutiny σ 161 (i32 a) (i32 b) (i32 v)) (fun r => r.1 = i32 (aMutiny S a b v) ∧ RM (nMutiny S a b v) r.2 ∧ FM σ r.2) := by
  have hm := h.ml
  have q0 := M_thrown h (i32 ((0 : Nat) : Int))
  generalize hQ : (fun r : Int32 × vMem => r.1 = i32 (aMutiny S a b v) ∧ RM (nMutiny S a b v) r.2 ∧ FM σ r.2) = Q
  have no : ¬ ((1 ≤ a ∧ a ≤ 20) ∧ (1 ≤ b ∧ b ≤ 20) ∧ 1 ≤ v ∧ v ≤ 18) → ok (some (i32 (-1), si σ 161 0 (i32 ((0 : Nat) : Int)))) Q := fun c => by
    rw [← hQ]
    unfold aMutiny nMutiny
    rw [if_neg c, if_neg c]
    exact ok_some ⟨rfl, q0, FM_thrown⟩
  unfold f_X3_mutiny
  by_cases c1 : 1 ≤ a ∧ a ≤ 20
  · by_cases c2 : 1 ≤ b ∧ b ≤ 20
    · by_cases c3 : 1 ≤ v ∧ v ≤ 18
      · have em : imin 9 (i32 a) = i32 (min 9 a) := imin_i (a := 9) (by omega) (by omega) (by omega) (by omega)
        (try simp (disch := omega) only [vl_s, bp_s, bd_s, bv_s, i32_nl, i32_n, i32_add, i32_sub, i32_mul, i32_neg, i32_ca, i32_cm, i32_cs, i32_cn, i32_le, i32_lt, i32_eq, i32_cl, Int.toNat_natCast, if_pos, if_neg, ite_true, ite_false, not_true_eq_false, not_false_eq_true, Nat.add_zero, Nat.zero_add, Nat.add_sub_cancel, ck_p, cko_si, cka_si, cko_sl, cka_sl, gi_e, gi_x, gl_e, gl_x, gr_si, gl_si, gi_sl, gr_sl, cko_c hm.k (show 3 ∈ [3] by decide), dr_c hm.r2, dr_c hm.r9, dr_c hm.r10, dr_c hm.r11, dr_c hm.r12, dr_c hm.r13, dr_c hm.r14, dr_c hm.r15, dr_c hm.r16, dr_c hm.r21, dr_c hm.r23, dr_c hm.r24, dr_c hm.r27, dr_c hm.r28, dr_c hm.r30, dr_c hm.r33, dr_c hm.r34, dr_c hm.r36, dr_c hm.r37, dr_c hm.r38, dr_c hm.r41, dr_c hm.r43, dr_c hm.r44, dr_c hm.r45, dr_c hm.r46, dr_c hm.r47, dr_c hm.r50, dr_c hm.r51, dr_c hm.r52, cka_i hm.k162 hm.l162, cka_i hm.k163 hm.l163, cka_i hm.k164 hm.l164, cka_i hm.k165 hm.l165, cka_i hm.k166 hm.l166, cka_i hm.k167 hm.l167, cka_i hm.k168 hm.l168, cka_i hm.k169 hm.l169, cka_i hm.k170 hm.l170, cka_i hm.k171 hm.l171, cka_i hm.k172 hm.l172, cka_i hm.k173 hm.l173, cka_i hm.k174 hm.l174, cka_i hm.k175 hm.l175, cka_i hm.k176 hm.l176, cka_i hm.k177 hm.l177, cka_i hm.k178 hm.l178, cka_i hm.k179 hm.l179, cka_i hm.k180 hm.l180, cka_i hm.k181 hm.l181, cka_i hm.k182 hm.l182, cka_i hm.k183 hm.l183, cka_i hm.k184 hm.l184, cka_i hm.k185 hm.l185, cka_i hm.k186 hm.l186, cka_i hm.k187 hm.l187, cka_i hm.k188 hm.l188, cka_i hm.k189 hm.l189, cka_i hm.k190 hm.l190, X3_inI, X1_inI, i32_64, b01_i0, b01_i1, i64_m1, i64_0, i64_1, i64_2, i64_3, i64_8, i64_9, i64_10, i64_12, i64_15, i64_18, i64_20, i64_24, i64_30, i64_39, i64_48, i64_57, i64_60, i64_99, i64_100, i64_999, i64_99999])
        have mi : mutI ((0 : Int), row0 S) 0 := ⟨Int.le_refl _, Int.le_refl _, fun _ => rfl⟩
        refine loop3 (F := f_X3_mutiny_54 161 (i32 a) (i32 b) (i32 v)) ((min 9 a).toNat + 1) (fun x σ1 z w => w = i32 x ∧ z = i32 (mutX a b v (0, row0 S) x).1 ∧ RM (mutX a b v (0, row0 S) x).2 σ1 ∧ FM σ σ1) ?_ FU 0 _ _ _ (by omega) ⟨rfl, rfl, M_row0 q0, FM_thrown.tr0 (F_row0.rsm (by decide))⟩ (by unfold FU; omega)
        rintro m x σ1 z w hx ⟨rfl, rfl, q1, F1⟩ IH
        rw [f_X3_mutiny_54.eq_2, em]
        by_cases d : x < (min 9 a).toNat + 1
        · (try simp (disch := omega) only [vl_s, bp_s, bd_s, bv_s, i32_nl, i32_n, i32_add, i32_sub, i32_mul, i32_neg, i32_ca, i32_cm, i32_cs, i32_cn, i32_le, i32_lt, i32_eq, i32_cl, Int.toNat_natCast, if_pos, if_neg, ite_true, ite_false, not_true_eq_false, not_false_eq_true, Nat.add_zero, Nat.zero_add, Nat.add_sub_cancel, ck_p, cko_si, cka_si, cko_sl, cka_sl, gi_e, gi_x, gl_e, gl_x, gr_si, gl_si, gi_sl, gr_sl])
          refine M_mut68 q1 (mutX_i c2.2 mi x) (by omega) c1.1 c1.2 c2.1 c2.2 c3.1 c3.2 (by omega) (fun σ2 q2 F2 => ?_)
          exact IH d _ _ _ ⟨rfl, rfl, q2, F1.tr0 (F2.rsm (by decide))⟩
        · have : x = (min 9 a).toNat + 1 := by omega
          subst this
          have c9 : i32 (min 9 a) < i32 (((min 9 a).toNat + 1 : Nat) : Int) := by rw [i32_lt (by omega) (by omega) (by omega) (by omega)]; omega
          rw [if_pos c9, ← hQ]
          unfold aMutiny nMutiny
          rw [if_pos ⟨c1, c2, c3⟩, if_pos ⟨c1, c2, c3⟩]
          exact ok_some ⟨rfl, q1, F1⟩
      · (try simp (disch := omega) only [vl_s, bp_s, bd_s, bv_s, i32_nl, i32_n, i32_add, i32_sub, i32_mul, i32_neg, i32_ca, i32_cm, i32_cs, i32_cn, i32_le, i32_lt, i32_eq, i32_cl, Int.toNat_natCast, if_pos, if_neg, ite_true, ite_false, not_true_eq_false, not_false_eq_true, Nat.add_zero, Nat.zero_add, Nat.add_sub_cancel, ck_p, cko_si, cka_si, cko_sl, cka_sl, gi_e, gi_x, gl_e, gl_x, gr_si, gl_si, gi_sl, gr_sl, cko_c hm.k (show 3 ∈ [3] by decide), dr_c hm.r2, dr_c hm.r9, dr_c hm.r10, dr_c hm.r11, dr_c hm.r12, dr_c hm.r13, dr_c hm.r14, dr_c hm.r15, dr_c hm.r16, dr_c hm.r21, dr_c hm.r23, dr_c hm.r24, dr_c hm.r27, dr_c hm.r28, dr_c hm.r30, dr_c hm.r33, dr_c hm.r34, dr_c hm.r36, dr_c hm.r37, dr_c hm.r38, dr_c hm.r41, dr_c hm.r43, dr_c hm.r44, dr_c hm.r45, dr_c hm.r46, dr_c hm.r47, dr_c hm.r50, dr_c hm.r51, dr_c hm.r52, cka_i hm.k162 hm.l162, cka_i hm.k163 hm.l163, cka_i hm.k164 hm.l164, cka_i hm.k165 hm.l165, cka_i hm.k166 hm.l166, cka_i hm.k167 hm.l167, cka_i hm.k168 hm.l168, cka_i hm.k169 hm.l169, cka_i hm.k170 hm.l170, cka_i hm.k171 hm.l171, cka_i hm.k172 hm.l172, cka_i hm.k173 hm.l173, cka_i hm.k174 hm.l174, cka_i hm.k175 hm.l175, cka_i hm.k176 hm.l176, cka_i hm.k177 hm.l177, cka_i hm.k178 hm.l178, cka_i hm.k179 hm.l179, cka_i hm.k180 hm.l180, cka_i hm.k181 hm.l181, cka_i hm.k182 hm.l182, cka_i hm.k183 hm.l183, cka_i hm.k184 hm.l184, cka_i hm.k185 hm.l185, cka_i hm.k186 hm.l186, cka_i hm.k187 hm.l187, cka_i hm.k188 hm.l188, cka_i hm.k189 hm.l189, cka_i hm.k190 hm.l190, X3_inI, X1_inI, i32_64, b01_i0, b01_i1, i64_m1, i64_0, i64_1, i64_2, i64_3, i64_8, i64_9, i64_10, i64_12, i64_15, i64_18, i64_20, i64_24, i64_30, i64_39, i64_48, i64_57, i64_60, i64_99, i64_100, i64_999, i64_99999])
        exact no (fun q => c3 q.2.2)
    · (try simp (disch := omega) only [vl_s, bp_s, bd_s, bv_s, i32_nl, i32_n, i32_add, i32_sub, i32_mul, i32_neg, i32_ca, i32_cm, i32_cs, i32_cn, i32_le, i32_lt, i32_eq, i32_cl, Int.toNat_natCast, if_pos, if_neg, ite_true, ite_false, not_true_eq_false, not_false_eq_true, Nat.add_zero, Nat.zero_add, Nat.add_sub_cancel, ck_p, cko_si, cka_si, cko_sl, cka_sl, gi_e, gi_x, gl_e, gl_x, gr_si, gl_si, gi_sl, gr_sl, cko_c hm.k (show 3 ∈ [3] by decide), dr_c hm.r2, dr_c hm.r9, dr_c hm.r10, dr_c hm.r11, dr_c hm.r12, dr_c hm.r13, dr_c hm.r14, dr_c hm.r15, dr_c hm.r16, dr_c hm.r21, dr_c hm.r23, dr_c hm.r24, dr_c hm.r27, dr_c hm.r28, dr_c hm.r30, dr_c hm.r33, dr_c hm.r34, dr_c hm.r36, dr_c hm.r37, dr_c hm.r38, dr_c hm.r41, dr_c hm.r43, dr_c hm.r44, dr_c hm.r45, dr_c hm.r46, dr_c hm.r47, dr_c hm.r50, dr_c hm.r51, dr_c hm.r52, cka_i hm.k162 hm.l162, cka_i hm.k163 hm.l163, cka_i hm.k164 hm.l164, cka_i hm.k165 hm.l165, cka_i hm.k166 hm.l166, cka_i hm.k167 hm.l167, cka_i hm.k168 hm.l168, cka_i hm.k169 hm.l169, cka_i hm.k170 hm.l170, cka_i hm.k171 hm.l171, cka_i hm.k172 hm.l172, cka_i hm.k173 hm.l173, cka_i hm.k174 hm.l174, cka_i hm.k175 hm.l175, cka_i hm.k176 hm.l176, cka_i hm.k177 hm.l177, cka_i hm.k178 hm.l178, cka_i hm.k179 hm.l179, cka_i hm.k180 hm.l180, cka_i hm.k181 hm.l181, cka_i hm.k182 hm.l182, cka_i hm.k183 hm.l183, cka_i hm.k184 hm.l184, cka_i hm.k185 hm.l185, cka_i hm.k186 hm.l186, cka_i hm.k187 hm.l187, cka_i hm.k188 hm.l188, cka_i hm.k189 hm.l189, cka_i hm.k190 hm.l190, X3_inI, X1_inI, i32_64, b01_i0, b01_i1, i64_m1, i64_0, i64_1, i64_2, i64_3, i64_8, i64_9, i64_10, i64_12, i64_15, i64_18, i64_20, i64_24, i64_30, i64_39, i64_48, i64_57, i64_60, i64_99, i64_100, i64_999, i64_99999])
      exact no (fun q => c2 q.2.1)
  · (try simp (disch := omega) only [vl_s, bp_s, bd_s, bv_s, i32_nl, i32_n, i32_add, i32_sub, i32_mul, i32_neg, i32_ca, i32_cm, i32_cs, i32_cn, i32_le, i32_lt, i32_eq, i32_cl, Int.toNat_natCast, if_pos, if_neg, ite_true, ite_false, not_true_eq_false, not_false_eq_true, Nat.add_zero, Nat.zero_add, Nat.add_sub_cancel, ck_p, cko_si, cka_si, cko_sl, cka_sl, gi_e, gi_x, gl_e, gl_x, gr_si, gl_si, gi_sl, gr_sl, cko_c hm.k (show 3 ∈ [3] by decide), dr_c hm.r2, dr_c hm.r9, dr_c hm.r10, dr_c hm.r11, dr_c hm.r12, dr_c hm.r13, dr_c hm.r14, dr_c hm.r15, dr_c hm.r16, dr_c hm.r21, dr_c hm.r23, dr_c hm.r24, dr_c hm.r27, dr_c hm.r28, dr_c hm.r30, dr_c hm.r33, dr_c hm.r34, dr_c hm.r36, dr_c hm.r37, dr_c hm.r38, dr_c hm.r41, dr_c hm.r43, dr_c hm.r44, dr_c hm.r45, dr_c hm.r46, dr_c hm.r47, dr_c hm.r50, dr_c hm.r51, dr_c hm.r52, cka_i hm.k162 hm.l162, cka_i hm.k163 hm.l163, cka_i hm.k164 hm.l164, cka_i hm.k165 hm.l165, cka_i hm.k166 hm.l166, cka_i hm.k167 hm.l167, cka_i hm.k168 hm.l168, cka_i hm.k169 hm.l169, cka_i hm.k170 hm.l170, cka_i hm.k171 hm.l171, cka_i hm.k172 hm.l172, cka_i hm.k173 hm.l173, cka_i hm.k174 hm.l174, cka_i hm.k175 hm.l175, cka_i hm.k176 hm.l176, cka_i hm.k177 hm.l177, cka_i hm.k178 hm.l178, cka_i hm.k179 hm.l179, cka_i hm.k180 hm.l180, cka_i hm.k181 hm.l181, cka_i hm.k182 hm.l182, cka_i hm.k183 hm.l183, cka_i hm.k184 hm.l184, cka_i hm.k185 hm.l185, cka_i hm.k186 hm.l186, cka_i hm.k187 hm.l187, cka_i hm.k188 hm.l188, cka_i hm.k189 hm.l189, cka_i hm.k190 hm.l190, X3_inI, X1_inI, i32_64, b01_i0, b01_i1, i64_m1, i64_0, i64_1, i64_2, i64_3, i64_8, i64_9, i64_10, i64_12, i64_15, i64_18, i64_20, i64_24, i64_30, i64_39, i64_48, i64_57, i64_60, i64_99, i64_100, i64_999, i64_99999])
    exact no (fun q => c1 q.1)
