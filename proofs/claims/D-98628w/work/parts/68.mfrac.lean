/-! THE MODEL'S ACTS: fractions -/
set_option maxRecDepth 100000
theorem lg_0 {x : Int64} : lg_cmp x 0 = 0 ↔ x = 0 := by
  rcases lg_cases x 0 with ⟨h, e⟩ | ⟨h, e⟩ | ⟨h, e⟩
  · rw [e]; exact ⟨fun q => absurd q (by decide), fun q => by rw [q] at h; exact absurd h (by decide)⟩
  · rw [e]; exact ⟨fun _ => h, fun _ => rfl⟩
  · rw [e]; exact ⟨fun q => absurd q (by decide), fun q => by rw [q] at h; exact absurd h (by decide)⟩
theorem i64_mod {a b : Int64} (ha : 0 ≤ a.toInt) (hb : 0 < b.toInt) : (a - a / b * b).toInt = a.toInt % b.toInt := by
  have h1 := a.toInt_lt
  have hd : (a / b).toInt = a.toInt / b.toInt := by
    rw [Int64.toInt_div_of_ne_right _ _ (fun q => by rw [q] at hb; exact absurd hb (by decide)), Int.tdiv_eq_ediv_of_nonneg ha]
  have hdb := Int.ediv_mul_le a.toInt (b := b.toInt) (by omega)
  have hd0 : 0 ≤ a.toInt / b.toInt := Int.ediv_nonneg ha (by omega)
  have hm0 : 0 ≤ a.toInt / b.toInt * b.toInt := Int.mul_nonneg hd0 (by omega)
  have hm : (a / b * b).toInt = a.toInt / b.toInt * b.toInt := by
    rw [Int64.toInt_mul, hd]
    exact Int.bmod_eq_of_le (by omega) (by omega)
  rw [Int64.toInt_sub, hm, Int.bmod_eq_of_le (by omega) (by omega)]
  have := Int.emod_def a.toInt b.toInt
  rw [Int.mul_comm] at this
  omega
theorem common_step {n : Nat} {σ : vMem} {a b : Int64} (hb : b ≠ 0) : f_X3_common (n + 1) σ a b = f_X3_common n σ b (a - a / b * b) := by
  show f_X3_common_b (f_X3_common n) σ a b = _
  unfold f_X3_common_b ck
  rw [if_pos (fun q => hb (lg_0.mp q)), if_pos hb]
  cases f_X3_common n σ b (a - a / b * b) <;> rfl
theorem common_end {n : Nat} {σ : vMem} {a : Int64} : f_X3_common (n + 1) σ a 0 = some a := by
  show f_X3_common_b (f_X3_common n) σ a 0 = _
  unfold f_X3_common_b
  rw [if_neg (fun q => q (lg_0.mpr rfl))]
theorem common_more {σ : vMem} : ∀ {n : Nat} {a b g : Int64}, f_X3_common n σ a b = some g → f_X3_common (n + 1) σ a b = some g
  | 0, _, _, _, h => by cases h
  | n + 1, a, b, g, h => by
    by_cases hb : b = 0
    · subst hb
      rw [common_end] at h ⊢
      exact h
    · rw [common_step hb] at h ⊢
      exact common_more h
theorem common_ok (σ : vMem) : ∀ (k : Nat) (a b : Int64), 0 ≤ a.toInt → 0 ≤ b.toInt → b.toInt < 2 ^ (k + 1) → (a ≠ 0 ∨ b ≠ 0) → ∃ g, g ≠ 0 ∧ f_X3_common (2 * (k + 1)) σ a b = some g := by
  have tz : ∀ x : Int64, x.toInt = 0 → x = 0 := fun x h => Int64.toInt_inj.mp h
  intro k
  induction k with
  | zero =>
    intro a b ha hb hlt hne
    by_cases h0 : b = 0
    · subst h0
      exact ⟨a, by rcases hne with h | h; exact h; exact absurd rfl h, common_end⟩
    · have hb1 : b.toInt ≠ 0 := fun q => h0 (tz b q)
      have hm := i64_mod (b := b) ha (by omega)
      have hr : a - a / b * b = 0 := by
        refine tz _ ?_
        rw [hm]
        have : b.toInt = 1 := by omega
        rw [this, Int.emod_one]
      refine ⟨b, h0, ?_⟩
      rw [show 2 * (0 + 1) = 1 + 1 from rfl, common_step h0, hr, common_end]
  | succ k ih =>
    intro a b ha hb hlt hne
    by_cases h0 : b = 0
    · subst h0
      exact ⟨a, by rcases hne with h | h; exact h; exact absurd rfl h, common_end⟩
    · have hb1 : b.toInt ≠ 0 := fun q => h0 (tz b q)
      have hm := i64_mod (b := b) ha (by omega)
      have hr1 := Int.emod_nonneg a.toInt hb1
      have hr2 := Int.emod_lt_of_pos a.toInt (show 0 < b.toInt by omega)
      rw [show 2 * (k + 1 + 1) = (2 * (k + 1) + 1) + 1 by omega, common_step h0]
      by_cases h1 : a - a / b * b = 0
      · exact ⟨b, h0, by rw [h1, common_end]⟩
      · have h1' : (a - a / b * b).toInt ≠ 0 := fun q => h1 (tz _ q)
        have hm2 := i64_mod (a := b) (b := a - a / b * b) hb (by omega)
        rw [hm] at h1'
        have q1 := Int.emod_nonneg b.toInt h1'
        have q2 := Int.emod_lt_of_pos b.toInt (show 0 < a.toInt % b.toInt by omega)
        have q3 : 2 * (b.toInt % (a.toInt % b.toInt)) < b.toInt := by
          have e := Int.emod_add_mul_ediv b.toInt (a.toInt % b.toInt)
          have d1 : 1 ≤ b.toInt / (a.toInt % b.toInt) := by
            rw [Int.le_ediv_iff_mul_le (by omega)]; omega
          have d2 : (a.toInt % b.toInt) * 1 ≤ (a.toInt % b.toInt) * (b.toInt / (a.toInt % b.toInt)) := Int.mul_le_mul_of_nonneg_left d1 (by omega)
          omega
        rw [common_step h1]
        rw [Int.pow_succ] at hlt
        refine ih _ _ (by omega) (by rw [hm2, hm]; exact q1) (by rw [hm2, hm]; omega) (Or.inl h1)
def cmn (a b : Int64) : Int64 := (f_X3_common 100 σ0 a b).getD 0
theorem common_σ (σ τ : vMem) : ∀ (n : Nat) (a b : Int64), f_X3_common n σ a b = f_X3_common n τ a b
  | 0, _, _ => rfl
  | n + 1, a, b => by
    show f_X3_common_b (f_X3_common n) σ a b = f_X3_common_b (f_X3_common n) τ a b
    unfold f_X3_common_b
    rw [common_σ σ τ n]
theorem X1_common (σ : vMem) : ∀ (n : Nat) (a b : Int64), f_X1_common n σ a b = f_X3_common n σ a b
  | 0, _, _ => rfl
  | n + 1, a, b => by
    show f_X1_common_b (f_X1_common n) σ a b = f_X3_common_b (f_X3_common n) σ a b
    unfold f_X1_common_b f_X3_common_b
    rw [X1_common σ n]
/-- a fraction that can be told -/
def fracOk (u d : Int64) : Prop := 0 ≤ u.toInt ∧ 0 < d.toInt ∧ d.toInt < 1125899906842624
theorem cmn_ok {u d : Int64} (h : fracOk u d) (σ : vMem) : f_X3_common 100 σ u d = some (cmn u d) ∧ cmn u d ≠ 0 := by
  obtain ⟨g, hg, e⟩ := common_ok σ 49 u d h.1 (by have := h.2.1; omega) (by have := h.2.2; exact this) (Or.inr (fun q => by have := h.2.1; rw [q] at this; exact absurd this (by decide)))
  have e1 : f_X3_common 100 σ u d = some g := e
  have e2 : cmn u d = g := by
    unfold cmn
    rw [common_σ σ0 σ, e1]
    rfl
  rw [e2]
  exact ⟨e1, hg⟩
def fracS (S : St) (u d : Int64) : St := rowA (rowA (row0 S) (u / cmn u d)) (d / cmn u d)
theorem M_frac {S : St} {σ : vMem} {u d : Int64} (h : RM S σ) (hf : fracOk u d) : ok (f_X3_tellsFraction σ 161 u d) (fun σ' => RM (fracS S u d) σ' ∧ Fr (KM [7]) 0 0 σ σ') := by
  have hm := h.ml
  obtain ⟨e1, e2⟩ := cmn_ok hf σ
  have ck1 : ∀ {α : Type} (t : Option α), ck (¬ cmn u d = 0) t = t := fun t => if_pos e2
  unfold f_X3_tellsFraction
  (try simp (disch := omega) only [vl_s, bp_s, bd_s, bv_s, i32_nl, i32_n, i32_add, i32_sub, i32_mul, i32_neg, i32_ca, i32_cm, i32_cs, i32_cn, i32_le, i32_lt, i32_eq, i32_cl, Int.toNat_natCast, if_pos, if_neg, ite_true, ite_false, not_true_eq_false, not_false_eq_true, Nat.add_zero, Nat.zero_add, Nat.add_sub_cancel, ck_p, cko_si, cka_si, cko_sl, cka_sl, gi_e, gi_x, gl_e, gl_x, gr_si, gl_si, gi_sl, gr_sl, cko_c hm.k (show 3 ∈ [3] by decide), dr_c hm.r2, dr_c hm.r9, dr_c hm.r10, dr_c hm.r11, dr_c hm.r12, dr_c hm.r13, dr_c hm.r14, dr_c hm.r15, dr_c hm.r16, dr_c hm.r21, dr_c hm.r23, dr_c hm.r24, dr_c hm.r27, dr_c hm.r28, dr_c hm.r30, dr_c hm.r33, dr_c hm.r34, dr_c hm.r36, dr_c hm.r37, dr_c hm.r38, dr_c hm.r41, dr_c hm.r43, dr_c hm.r44, dr_c hm.r45, dr_c hm.r46, dr_c hm.r47, dr_c hm.r50, dr_c hm.r51, dr_c hm.r52, cka_i hm.k162 hm.l162, cka_i hm.k163 hm.l163, cka_i hm.k164 hm.l164, cka_i hm.k165 hm.l165, cka_i hm.k166 hm.l166, cka_i hm.k167 hm.l167, cka_i hm.k168 hm.l168, cka_i hm.k169 hm.l169, cka_i hm.k170 hm.l170, cka_i hm.k171 hm.l171, cka_i hm.k172 hm.l172, cka_i hm.k173 hm.l173, cka_i hm.k174 hm.l174, cka_i hm.k175 hm.l175, cka_i hm.k176 hm.l176, cka_i hm.k177 hm.l177, cka_i hm.k178 hm.l178, cka_i hm.k179 hm.l179, cka_i hm.k180 hm.l180, cka_i hm.k181 hm.l181, cka_i hm.k182 hm.l182, cka_i hm.k183 hm.l183, cka_i hm.k184 hm.l184, cka_i hm.k185 hm.l185, cka_i hm.k186 hm.l186, cka_i hm.k187 hm.l187, cka_i hm.k188 hm.l188, cka_i hm.k189 hm.l189, cka_i hm.k190 hm.l190, e1, ck1])
  refine ok_bv (M_enters (M_row0 h) (by show 0 < 40; omega) _) ?_
  rintro σ1 ⟨h1, F1⟩
  have hm1 := h1.ml
  (try simp (disch := omega) only [vl_s, bp_s, bd_s, bv_s, i32_nl, i32_n, i32_add, i32_sub, i32_mul, i32_neg, i32_ca, i32_cm, i32_cs, i32_cn, i32_le, i32_lt, i32_eq, i32_cl, Int.toNat_natCast, if_pos, if_neg, ite_true, ite_false, not_true_eq_false, not_false_eq_true, Nat.add_zero, Nat.zero_add, Nat.add_sub_cancel, ck_p, cko_si, cka_si, cko_sl, cka_sl, gi_e, gi_x, gl_e, gl_x, gr_si, gl_si, gi_sl, gr_sl, cko_c hm1.k (show 3 ∈ [3] by decide), dr_c hm1.r2, dr_c hm1.r9, dr_c hm1.r10, dr_c hm1.r11, dr_c hm1.r12, dr_c hm1.r13, dr_c hm1.r14, dr_c hm1.r15, dr_c hm1.r16, dr_c hm1.r21, dr_c hm1.r23, dr_c hm1.r24, dr_c hm1.r27, dr_c hm1.r28, dr_c hm1.r30, dr_c hm1.r33, dr_c hm1.r34, dr_c hm1.r36, dr_c hm1.r37, dr_c hm1.r38, dr_c hm1.r41, dr_c hm1.r43, dr_c hm1.r44, dr_c hm1.r45, dr_c hm1.r46, dr_c hm1.r47, dr_c hm1.r50, dr_c hm1.r51, dr_c hm1.r52, cka_i hm1.k162 hm1.l162, cka_i hm1.k163 hm1.l163, cka_i hm1.k164 hm1.l164, cka_i hm1.k165 hm1.l165, cka_i hm1.k166 hm1.l166, cka_i hm1.k167 hm1.l167, cka_i hm1.k168 hm1.l168, cka_i hm1.k169 hm1.l169, cka_i hm1.k170 hm1.l170, cka_i hm1.k171 hm1.l171, cka_i hm1.k172 hm1.l172, cka_i hm1.k173 hm1.l173, cka_i hm1.k174 hm1.l174, cka_i hm1.k175 hm1.l175, cka_i hm1.k176 hm1.l176, cka_i hm1.k177 hm1.l177, cka_i hm1.k178 hm1.l178, cka_i hm1.k179 hm1.l179, cka_i hm1.k180 hm1.l180, cka_i hm1.k181 hm1.l181, cka_i hm1.k182 hm1.l182, cka_i hm1.k183 hm1.l183, cka_i hm1.k184 hm1.l184, cka_i hm1.k185 hm1.l185, cka_i hm1.k186 hm1.l186, cka_i hm1.k187 hm1.l187, cka_i hm1.k188 hm1.l188, cka_i hm1.k189 hm1.l189, cka_i hm1.k190 hm1.l190, ck1])
  refine ok_bv (M_enters h1 (by show 0 + 1 < 40; omega) _) ?_
  rintro σ2 ⟨h2, F2⟩
  (try simp (disch := omega) only [vl_s, bp_s, bd_s, bv_s, i32_nl, i32_n, i32_add, i32_sub, i32_mul, i32_neg, i32_ca, i32_cm, i32_cs, i32_cn, i32_le, i32_lt, i32_eq, i32_cl, Int.toNat_natCast, if_pos, if_neg, ite_true, ite_false, not_true_eq_false, not_false_eq_true, Nat.add_zero, Nat.zero_add, Nat.add_sub_cancel, ck_p, cko_si, cka_si, cko_sl, cka_sl, gi_e, gi_x, gl_e, gl_x, gr_si, gl_si, gi_sl, gr_sl])
  exact ok_some ⟨h2, (F_row0.tr0 F1).tr0 F2⟩
def p64 (v : Int64) : Nat → Int64
  | 0 => 1
  | n + 1 => p64 v n * v
theorem p64_10 : ∀ n, n ≤ 15 → (p64 10 n).toInt = 10 ^ n ∧ 0 < (p64 10 n).toInt ∧ (p64 10 n).toInt < 1125899906842624 := by decide +kernel
/-- what the knowing ones are: p/10 times (1 - p/10) to the n -/
def kn64 (p : Int64) (v : Int64) : Nat → Int64
  | 0 => v
  | n + 1 => kn64 p v n * p
def aKnows (n p : Int) : Int := if (0 ≤ n ∧ n ≤ 12) ∧ 0 ≤ p ∧ p ≤ 10 then 0 else -1
def nKnows (S : St) (n p : Int) : St := if (0 ≤ n ∧ n ≤ 12) ∧ 0 ≤ p ∧ p ≤ 10 then fracS S (kn64 (Int32.toInt64 (i32 (10 - p))) (Int32.toInt64 (i32 p)) n.toNat) (kn64 10 10 n.toNat) else S
theorem kn_ok : ∀ p : Nat, p ≤ 10 → ∀ n, n ≤ 12 → fracOk (kn64 (Int32.toInt64 (i32 (10 - (p : Int)))) (Int32.toInt64 (i32 (p : Int))) n) (kn64 10 10 n) := by
  unfold fracOk
  decide +kernel
theorem M_knows {S : St} {σ : vMem} {n p : Int} (h : RM S σ) (h1 : -2147483648 ≤ n) (h2 : n < 2147483648) (h3 : -2147483648 ≤ p) (h4 : p < 2147483648) : ok (f_X3_knows σ 161 (i32 n) (i32 p)) (fun r => r.1 = i32 (aKnows n p) ∧ RM (nKnows S n p) r.2 ∧ FM σ r.2) := by
  have hm := h.ml
  generalize hQ : (fun r : Int32 × vMem => r.1 = i32 (aKnows n p) ∧ RM (nKnows S n p) r.2 ∧ FM σ r.2) = Q
  have no : ¬ ((0 ≤ n ∧ n ≤ 12) ∧ 0 ≤ p ∧ p ≤ 10) → ok (some (i32 (-1), si σ 161 0 (i32 ((0 : Nat) : Int)))) Q := fun c => by
    rw [← hQ]
    unfold aKnows nKnows
    rw [if_neg c, if_neg c]
    exact ok_some ⟨rfl, M_thrown h _, FM_thrown⟩
  unfold f_X3_knows
  by_cases c1 : 0 ≤ n ∧ n ≤ 12
  · by_cases c2 : 0 ≤ p ∧ p ≤ 10
    · obtain ⟨k, rfl⟩ : ∃ k : Nat, n = k := ⟨n.toNat, by omega⟩
      obtain ⟨j, rfl⟩ : ∃ j : Nat, p = j := ⟨p.toNat, by omega⟩
      have q0 := M_thrown h (i32 ((0 : Nat) : Int))
      have hf := kn_ok j (by omega) k (by omega)
      (try simp (disch := omega) only [vl_s, bp_s, bd_s, bv_s, i32_nl, i32_n, i32_add, i32_sub, i32_mul, i32_neg, i32_ca, i32_cm, i32_cs, i32_cn, i32_le, i32_lt, i32_eq, i32_cl, Int.toNat_natCast, if_pos, if_neg, ite_true, ite_false, not_true_eq_false, not_false_eq_true, Nat.add_zero, Nat.zero_add, Nat.add_sub_cancel, ck_p, cko_si, cka_si, cko_sl, cka_sl, gi_e, gi_x, gl_e, gl_x, gr_si, gl_si, gi_sl, gr_sl, cko_c hm.k (show 3 ∈ [3] by decide), dr_c hm.r2, dr_c hm.r9, dr_c hm.r10, dr_c hm.r11, dr_c hm.r12, dr_c hm.r13, dr_c hm.r14, dr_c hm.r15, dr_c hm.r16, dr_c hm.r21, dr_c hm.r23, dr_c hm.r24, dr_c hm.r27, dr_c hm.r28, dr_c hm.r30, dr_c hm.r33, dr_c hm.r34, dr_c hm.r36, dr_c hm.r37, dr_c hm.r38, dr_c hm.r41, dr_c hm.r43, dr_c hm.r44, dr_c hm.r45, dr_c hm.r46, dr_c hm.r47, dr_c hm.r50, dr_c hm.r51, dr_c hm.r52, cka_i hm.k162 hm.l162, cka_i hm.k163 hm.l163, cka_i hm.k164 hm.l164, cka_i hm.k165 hm.l165, cka_i hm.k166 hm.l166, cka_i hm.k167 hm.l167, cka_i hm.k168 hm.l168, cka_i hm.k169 hm.l169, cka_i hm.k170 hm.l170, cka_i hm.k171 hm.l171, cka_i hm.k172 hm.l172, cka_i hm.k173 hm.l173, cka_i hm.k174 hm.l174, cka_i hm.k175 hm.l175, cka_i hm.k176 hm.l176, cka_i hm.k177 hm.l177, cka_i hm.k178 hm.l178, cka_i hm.k179 hm.l179, cka_i hm.k180 hm.l180, cka_i hm.k181 hm.l181, cka_i hm.k182 hm.l182, cka_i hm.k183 hm.l183, cka_i hm.k184 hm.l184, cka_i hm.k185 hm.l185, cka_i hm.k186 hm.l186, cka_i hm.k187 hm.l187, cka_i hm.k188 hm.l188, cka_i hm.k189 hm.l189, cka_i hm.k190 hm.l190, X3_inI, X1_inI, i32_64, b01_i0, b01_i1, i64_m1, i64_0, i64_1, i64_2, i64_3, i64_8, i64_9, i64_10, i64_12, i64_15, i64_18, i64_20, i64_24, i64_30, i64_39, i64_48, i64_57, i64_60, i64_99, i64_100, i64_999, i64_99999])
      refine loop3 (F := f_X3_knows_42 161 (i32 k) (i32 j) _ _) k (fun i a b x => x = i32 i ∧ a = kn64 (Int32.toInt64 (i32 (10 - (j : Int)))) (Int32.toInt64 (i32 j)) i ∧ b = kn64 10 10 i) ?_ FU 0 _ _ _ (by omega) ⟨rfl, rfl, rfl⟩ (by unfold FU; omega)
      rintro m i a b x hi ⟨rfl, rfl, rfl⟩ IH
      rw [f_X3_knows_42.eq_2]
      by_cases hc : i < k
      · simp only [vl_s]
        have e1 : (10 : Int32) - i32 j = i32 (10 - (j : Int)) := i32_sub 10 j
        rw [e1]
        (try simp (disch := omega) only [vl_s, bp_s, bd_s, bv_s, i32_nl, i32_n, i32_add, i32_sub, i32_mul, i32_neg, i32_ca, i32_cm, i32_cs, i32_cn, i32_le, i32_lt, i32_eq, i32_cl, Int.toNat_natCast, if_pos, if_neg, ite_true, ite_false, not_true_eq_false, not_false_eq_true, Nat.add_zero, Nat.zero_add, Nat.add_sub_cancel, ck_p, cko_si, cka_si, cko_sl, cka_sl, gi_e, gi_x, gl_e, gl_x, gr_si, gl_si, gi_sl, gr_sl])
        exact IH hc _ _ _ ⟨rfl, rfl, rfl⟩
      · have : i = k := by omega
        subst this
        (try simp (disch := omega) only [vl_s, bp_s, bd_s, bv_s, i32_nl, i32_n, i32_add, i32_sub, i32_mul, i32_neg, i32_ca, i32_cm, i32_cs, i32_cn, i32_le, i32_lt, i32_eq, i32_cl, Int.toNat_natCast, if_pos, if_neg, ite_true, ite_false, not_true_eq_false, not_false_eq_true, Nat.add_zero, Nat.zero_add, Nat.add_sub_cancel, ck_p, cko_si, cka_si, cko_sl, cka_sl, gi_e, gi_x, gl_e, gl_x, gr_si, gl_si, gi_sl, gr_sl])
        refine ok_bv (M_frac q0 hf) ?_
        rintro σ1 ⟨q1, F1⟩
        rw [← hQ]
        unfold aKnows nKnows
        rw [if_pos ⟨c1, c2⟩, if_pos ⟨c1, c2⟩, Int.toNat_natCast]
        exact ok_some ⟨rfl, q1, FM_thrown.tr0 (F1.rsm (by decide))⟩
    · (try simp (disch := omega) only [vl_s, bp_s, bd_s, bv_s, i32_nl, i32_n, i32_add, i32_sub, i32_mul, i32_neg, i32_ca, i32_cm, i32_cs, i32_cn, i32_le, i32_lt, i32_eq, i32_cl, Int.toNat_natCast, if_pos, if_neg, ite_true, ite_false, not_true_eq_false, not_false_eq_true, Nat.add_zero, Nat.zero_add, Nat.add_sub_cancel, ck_p, cko_si, cka_si, cko_sl, cka_sl, gi_e, gi_x, gl_e, gl_x, gr_si, gl_si, gi_sl, gr_sl, cko_c hm.k (show 3 ∈ [3] by decide), dr_c hm.r2, dr_c hm.r9, dr_c hm.r10, dr_c hm.r11, dr_c hm.r12, dr_c hm.r13, dr_c hm.r14, dr_c hm.r15, dr_c hm.r16, dr_c hm.r21, dr_c hm.r23, dr_c hm.r24, dr_c hm.r27, dr_c hm.r28, dr_c hm.r30, dr_c hm.r33, dr_c hm.r34, dr_c hm.r36, dr_c hm.r37, dr_c hm.r38, dr_c hm.r41, dr_c hm.r43, dr_c hm.r44, dr_c hm.r45, dr_c hm.r46, dr_c hm.r47, dr_c hm.r50, dr_c hm.r51, dr_c hm.r52, cka_i hm.k162 hm.l162, cka_i hm.k163 hm.l163, cka_i hm.k164 hm.l164, cka_i hm.k165 hm.l165, cka_i hm.k166 hm.l166, cka_i hm.k167 hm.l167, cka_i hm.k168 hm.l168, cka_i hm.k169 hm.l169, cka_i hm.k170 hm.l170, cka_i hm.k171 hm.l171, cka_i hm.k172 hm.l172, cka_i hm.k173 hm.l173, cka_i hm.k174 hm.l174, cka_i hm.k175 hm.l175, cka_i hm.k176 hm.l176, cka_i hm.k177 hm.l177, cka_i hm.k178 hm.l178, cka_i hm.k179 hm.l179, cka_i hm.k180 hm.l180, cka_i hm.k181 hm.l181, cka_i hm.k182 hm.l182, cka_i hm.k183 hm.l183, cka_i hm.k184 hm.l184, cka_i hm.k185 hm.l185, cka_i hm.k186 hm.l186, cka_i hm.k187 hm.l187, cka_i hm.k188 hm.l188, cka_i hm.k189 hm.l189, cka_i hm.k190 hm.l190, X3_inI, X1_inI, i32_64, b01_i0, b01_i1, i64_m1, i64_0, i64_1, i64_2, i64_3, i64_8, i64_9, i64_10, i64_12, i64_15, i64_18, i64_20, i64_24, i64_30, i64_39, i64_48, i64_57, i64_60, i64_99, i64_100, i64_999, i64_99999])
      exact no (fun q => c2 q.2)
  · (try simp (disch := omega) only [vl_s, bp_s, bd_s, bv_s, i32_nl, i32_n, i32_add, i32_sub, i32_mul, i32_neg, i32_ca, i32_cm, i32_cs, i32_cn, i32_le, i32_lt, i32_eq, i32_cl, Int.toNat_natCast, if_pos, if_neg, ite_true, ite_false, not_true_eq_false, not_false_eq_true, Nat.add_zero, Nat.zero_add, Nat.add_sub_cancel, ck_p, cko_si, cka_si, cko_sl, cka_sl, gi_e, gi_x, gl_e, gl_x, gr_si, gl_si, gi_sl, gr_sl, cko_c hm.k (show 3 ∈ [3] by decide), dr_c hm.r2, dr_c hm.r9, dr_c hm.r10, dr_c hm.r11, dr_c hm.r12, dr_c hm.r13, dr_c hm.r14, dr_c hm.r15, dr_c hm.r16, dr_c hm.r21, dr_c hm.r23, dr_c hm.r24, dr_c hm.r27, dr_c hm.r28, dr_c hm.r30, dr_c hm.r33, dr_c hm.r34, dr_c hm.r36, dr_c hm.r37, dr_c hm.r38, dr_c hm.r41, dr_c hm.r43, dr_c hm.r44, dr_c hm.r45, dr_c hm.r46, dr_c hm.r47, dr_c hm.r50, dr_c hm.r51, dr_c hm.r52, cka_i hm.k162 hm.l162, cka_i hm.k163 hm.l163, cka_i hm.k164 hm.l164, cka_i hm.k165 hm.l165, cka_i hm.k166 hm.l166, cka_i hm.k167 hm.l167, cka_i hm.k168 hm.l168, cka_i hm.k169 hm.l169, cka_i hm.k170 hm.l170, cka_i hm.k171 hm.l171, cka_i hm.k172 hm.l172, cka_i hm.k173 hm.l173, cka_i hm.k174 hm.l174, cka_i hm.k175 hm.l175, cka_i hm.k176 hm.l176, cka_i hm.k177 hm.l177, cka_i hm.k178 hm.l178, cka_i hm.k179 hm.l179, cka_i hm.k180 hm.l180, cka_i hm.k181 hm.l181, cka_i hm.k182 hm.l182, cka_i hm.k183 hm.l183, cka_i hm.k184 hm.l184, cka_i hm.k185 hm.l185, cka_i hm.k186 hm.l186, cka_i hm.k187 hm.l187, cka_i hm.k188 hm.l188, cka_i hm.k189 hm.l189, cka_i hm.k190 hm.l190, X3_inI, X1_inI, i32_64, b01_i0, b01_i1, i64_m1, i64_0, i64_1, i64_2, i64_3, i64_8, i64_9, i64_10, i64_12, i64_15, i64_18, i64_20, i64_24, i64_30, i64_39, i64_48, i64_57, i64_60, i64_99, i64_100, i64_999, i64_99999])
    exact no (fun q => c1 q.1)
def aChance (n p s : Int) : Int := if (1 ≤ n ∧ n ≤ 12) ∧ (0 ≤ p ∧ p ≤ 10) ∧ 0 ≤ s ∧ s ≤ 12 then 0 else -1
def nChance (S : St) (n p s : Int) : St := if (1 ≤ n ∧ n ≤ 12) ∧ (0 ≤ p ∧ p ≤ 10) ∧ 0 ≤ s ∧ s ≤ 12 then (if dly S S.now.now ≤ s then fracS S 1 1 else fracS S (kn64 (Int32.toInt64 (i32 (10 - p))) 1 n.toNat) (kn64 10 1 n.toNat)) else S
theorem ch_ok : ∀ p : Nat, p ≤ 10 → ∀ n, n ≤ 12 → fracOk (kn64 (Int32.toInt64 (i32 (10 - (p : Int)))) 1 n) (kn64 10 1 n) := by
  unfold fracOk
  decide +kernel
theorem M_chance {S : St} {σ : vMem} {B n p s : Int} (h : RM S σ) (g : gSt B S) (hB : B ≤ 900000) (h1 : -2147483648 ≤ n) (h2 : n < 2147483648) (h3 : -2147483648 ≤ p) (h4 : p < 2147483648) (h5 : -2147483648 ≤ s) (h6 : s < 2147483648) : ok (f_X3_chance σ 161 (i32 n) (i32 p) (i32 s)) (fun r => r.1 = i32 (aChance n p s) ∧ RM (nChance S n p s) r.2 ∧ FM σ r.2) := by
  have hm := h.ml
  generalize hQ : (fun r : Int32 × vMem => r.1 = i32 (aChance n p s) ∧ RM (nChance S n p s) r.2 ∧ FM σ r.2) = Q
  have no : ¬ ((1 ≤ n ∧ n ≤ 12) ∧ (0 ≤ p ∧ p ≤ 10) ∧ 0 ≤ s ∧ s ≤ 12) → ok (some (i32 (-1), si σ 161 0 (i32 ((0 : Nat) : Int)))) Q := fun c => by
    rw [← hQ]
    unfold aChance nChance
    rw [if_neg c, if_neg c]
    exact ok_some ⟨rfl, M_thrown h _, FM_thrown⟩
  unfold f_X3_chance
  by_cases c1 : 1 ≤ n ∧ n ≤ 12
  · by_cases c2 : 0 ≤ p ∧ p ≤ 10
    · by_cases c3 : 0 ≤ s ∧ s ≤ 12
      · obtain ⟨k, rfl⟩ : ∃ k : Nat, n = k := ⟨n.toNat, by omega⟩
        obtain ⟨j, rfl⟩ : ∃ j : Nat, p = j := ⟨p.toNat, by omega⟩
        have q0 := M_thrown h (i32 ((0 : Nat) : Int))
        have db := dly_b S S.now.now
        obtain ⟨⟨g1, g2, g3⟩, g4⟩ := g.now
        have fin : ∀ σ1 u d, RM S σ1 → FM σ σ1 → fracOk u d → (nChance S k j s = fracS S u d) → ok (bv (f_X3_tellsFraction σ1 161 u d) fun σ_3 => some (i32 ((0 : Nat) : Int), σ_3)) Q := by
          intro σ1 u d q1 F1 hf e
          refine ok_bv (M_frac q1 hf) ?_
          rintro σ2 ⟨q2, F2⟩
          rw [← hQ, e]
          unfold aChance
          rw [if_pos ⟨c1, c2, c3⟩]
          exact ok_some ⟨rfl, q2, F1.tr0 (F2.rsm (by decide))⟩
        have e0 : nChance S k j s = if dly S S.now.now ≤ s then fracS S 1 1 else fracS S (kn64 (Int32.toInt64 (i32 (10 - (j : Int)))) 1 k) (kn64 10 1 k) := by
          unfold nChance
          rw [if_pos ⟨c1, c2, c3⟩, Int.toNat_natCast]
        (try simp (disch := omega) only [vl_s, bp_s, bd_s, bv_s, i32_nl, i32_n, i32_add, i32_sub, i32_mul, i32_neg, i32_ca, i32_cm, i32_cs, i32_cn, i32_le, i32_lt, i32_eq, i32_cl, Int.toNat_natCast, if_pos, if_neg, ite_true, ite_false, not_true_eq_false, not_false_eq_true, Nat.add_zero, Nat.zero_add, Nat.add_sub_cancel, ck_p, cko_si, cka_si, cko_sl, cka_sl, gi_e, gi_x, gl_e, gl_x, gr_si, gl_si, gi_sl, gr_sl, cko_c hm.k (show 3 ∈ [3] by decide), dr_c hm.r2, dr_c hm.r9, dr_c hm.r10, dr_c hm.r11, dr_c hm.r12, dr_c hm.r13, dr_c hm.r14, dr_c hm.r15, dr_c hm.r16, dr_c hm.r21, dr_c hm.r23, dr_c hm.r24, dr_c hm.r27, dr_c hm.r28, dr_c hm.r30, dr_c hm.r33, dr_c hm.r34, dr_c hm.r36, dr_c hm.r37, dr_c hm.r38, dr_c hm.r41, dr_c hm.r43, dr_c hm.r44, dr_c hm.r45, dr_c hm.r46, dr_c hm.r47, dr_c hm.r50, dr_c hm.r51, dr_c hm.r52, cka_i hm.k162 hm.l162, cka_i hm.k163 hm.l163, cka_i hm.k164 hm.l164, cka_i hm.k165 hm.l165, cka_i hm.k166 hm.l166, cka_i hm.k167 hm.l167, cka_i hm.k168 hm.l168, cka_i hm.k169 hm.l169, cka_i hm.k170 hm.l170, cka_i hm.k171 hm.l171, cka_i hm.k172 hm.l172, cka_i hm.k173 hm.l173, cka_i hm.k174 hm.l174, cka_i hm.k175 hm.l175, cka_i hm.k176 hm.l176, cka_i hm.k177 hm.l177, cka_i hm.k178 hm.l178, cka_i hm.k179 hm.l179, cka_i hm.k180 hm.l180, cka_i hm.k181 hm.l181, cka_i hm.k182 hm.l182, cka_i hm.k183 hm.l183, cka_i hm.k184 hm.l184, cka_i hm.k185 hm.l185, cka_i hm.k186 hm.l186, cka_i hm.k187 hm.l187, cka_i hm.k188 hm.l188, cka_i hm.k189 hm.l189, cka_i hm.k190 hm.l190, X3_inI, X1_inI, i32_64, b01_i0, b01_i1, i64_m1, i64_0, i64_1, i64_2, i64_3, i64_8, i64_9, i64_10, i64_12, i64_15, i64_18, i64_20, i64_24, i64_30, i64_39, i64_48, i64_57, i64_60, i64_99, i64_100, i64_999, i64_99999])
        refine loop4 (F := f_X3_chance_52 161 (i32 k) (i32 j) (i32 s) _) k (fun i σ1 a b x => x = i32 i ∧ RM S σ1 ∧ FM σ σ1 ∧ a = kn64 (Int32.toInt64 (i32 (10 - (j : Int)))) 1 i ∧ b = kn64 10 1 i ∧ (0 < i → ¬ dly S S.now.now ≤ s)) ?_ FU 0 _ _ _ _ (by omega) ⟨rfl, q0, FM_thrown, rfl, rfl, fun q => by omega⟩ (by unfold FU; omega)
        rintro m i σ1 a b x hi ⟨rfl, q1, F1, rfl, rfl, hd⟩ IH
        have hm1 := q1.ml
        have e10 : i32 ((10 : Nat) : Int) - i32 j = i32 (10 - (j : Int)) := i32_sub 10 j
        have hn0 := q1.now.1
        rw [f_X3_chance_52.eq_2]
        by_cases hc : i < k
        · have e1 : (10 : Int32) - i32 j = i32 (10 - (j : Int)) := i32_sub 10 j
          rw [e1]
          (try simp (disch := omega) only [vl_s, bp_s, bd_s, bv_s, i32_nl, i32_n, i32_add, i32_sub, i32_mul, i32_neg, i32_ca, i32_cm, i32_cs, i32_cn, i32_le, i32_lt, i32_eq, i32_cl, Int.toNat_natCast, if_pos, if_neg, ite_true, ite_false, not_true_eq_false, not_false_eq_true, Nat.add_zero, Nat.zero_add, Nat.add_sub_cancel, ck_p, cko_si, cka_si, cko_sl, cka_sl, gi_e, gi_x, gl_e, gl_x, gr_si, gl_si, gi_sl, gr_sl, cko_c hm1.k (show 3 ∈ [3] by decide), dr_c hm1.r2, dr_c hm1.r9, dr_c hm1.r10, dr_c hm1.r11, dr_c hm1.r12, dr_c hm1.r13, dr_c hm1.r14, dr_c hm1.r15, dr_c hm1.r16, dr_c hm1.r21, dr_c hm1.r23, dr_c hm1.r24, dr_c hm1.r27, dr_c hm1.r28, dr_c hm1.r30, dr_c hm1.r33, dr_c hm1.r34, dr_c hm1.r36, dr_c hm1.r37, dr_c hm1.r38, dr_c hm1.r41, dr_c hm1.r43, dr_c hm1.r44, dr_c hm1.r45, dr_c hm1.r46, dr_c hm1.r47, dr_c hm1.r50, dr_c hm1.r51, dr_c hm1.r52, cka_i hm1.k162 hm1.l162, cka_i hm1.k163 hm1.l163, cka_i hm1.k164 hm1.l164, cka_i hm1.k165 hm1.l165, cka_i hm1.k166 hm1.l166, cka_i hm1.k167 hm1.l167, cka_i hm1.k168 hm1.l168, cka_i hm1.k169 hm1.l169, cka_i hm1.k170 hm1.l170, cka_i hm1.k171 hm1.l171, cka_i hm1.k172 hm1.l172, cka_i hm1.k173 hm1.l173, cka_i hm1.k174 hm1.l174, cka_i hm1.k175 hm1.l175, cka_i hm1.k176 hm1.l176, cka_i hm1.k177 hm1.l177, cka_i hm1.k178 hm1.l178, cka_i hm1.k179 hm1.l179, cka_i hm1.k180 hm1.l180, cka_i hm1.k181 hm1.l181, cka_i hm1.k182 hm1.l182, cka_i hm1.k183 hm1.l183, cka_i hm1.k184 hm1.l184, cka_i hm1.k185 hm1.l185, cka_i hm1.k186 hm1.l186, cka_i hm1.k187 hm1.l187, cka_i hm1.k188 hm1.l188, cka_i hm1.k189 hm1.l189, cka_i hm1.k190 hm1.l190, hn0])
          refine ok_bd (M_delayAt q1 g g1 (by omega)) ?_
          rintro y σ2 ⟨rfl, q2, F2⟩
          have F2' : FM σ1 σ2 := F2.mono (fun b j q => ⟨fun e => q (by subst e; rw [show reg 174 j = 0 from rfl]; decide), fun e => q (by subst e; rw [show reg 175 j = 0 from rfl]; decide)⟩)
          by_cases hs : dly S S.now.now ≤ s
          · have i0 : i = 0 := by
              by_cases q : 0 < i
              · exact absurd hs (hd q)
              · omega
            subst i0
            have hm2 := q2.ml
            (try simp (disch := omega) only [vl_s, bp_s, bd_s, bv_s, i32_nl, i32_n, i32_add, i32_sub, i32_mul, i32_neg, i32_ca, i32_cm, i32_cs, i32_cn, i32_le, i32_lt, i32_eq, i32_cl, Int.toNat_natCast, if_pos, if_neg, ite_true, ite_false, not_true_eq_false, not_false_eq_true, Nat.add_zero, Nat.zero_add, Nat.add_sub_cancel, ck_p, cko_si, cka_si, cko_sl, cka_sl, gi_e, gi_x, gl_e, gl_x, gr_si, gl_si, gi_sl, gr_sl, cko_c hm2.k (show 3 ∈ [3] by decide), dr_c hm2.r2, dr_c hm2.r9, dr_c hm2.r10, dr_c hm2.r11, dr_c hm2.r12, dr_c hm2.r13, dr_c hm2.r14, dr_c hm2.r15, dr_c hm2.r16, dr_c hm2.r21, dr_c hm2.r23, dr_c hm2.r24, dr_c hm2.r27, dr_c hm2.r28, dr_c hm2.r30, dr_c hm2.r33, dr_c hm2.r34, dr_c hm2.r36, dr_c hm2.r37, dr_c hm2.r38, dr_c hm2.r41, dr_c hm2.r43, dr_c hm2.r44, dr_c hm2.r45, dr_c hm2.r46, dr_c hm2.r47, dr_c hm2.r50, dr_c hm2.r51, dr_c hm2.r52, cka_i hm2.k162 hm2.l162, cka_i hm2.k163 hm2.l163, cka_i hm2.k164 hm2.l164, cka_i hm2.k165 hm2.l165, cka_i hm2.k166 hm2.l166, cka_i hm2.k167 hm2.l167, cka_i hm2.k168 hm2.l168, cka_i hm2.k169 hm2.l169, cka_i hm2.k170 hm2.l170, cka_i hm2.k171 hm2.l171, cka_i hm2.k172 hm2.l172, cka_i hm2.k173 hm2.l173, cka_i hm2.k174 hm2.l174, cka_i hm2.k175 hm2.l175, cka_i hm2.k176 hm2.l176, cka_i hm2.k177 hm2.l177, cka_i hm2.k178 hm2.l178, cka_i hm2.k179 hm2.l179, cka_i hm2.k180 hm2.l180, cka_i hm2.k181 hm2.l181, cka_i hm2.k182 hm2.l182, cka_i hm2.k183 hm2.l183, cka_i hm2.k184 hm2.l184, cka_i hm2.k185 hm2.l185, cka_i hm2.k186 hm2.l186, cka_i hm2.k187 hm2.l187, cka_i hm2.k188 hm2.l188, cka_i hm2.k189 hm2.l189, cka_i hm2.k190 hm2.l190])
            exact fin σ2 1 1 q2 (F1.tr0 F2') (by unfold fracOk; decide) (by rw [e0, if_pos hs])
          · (try simp (disch := omega) only [vl_s, bp_s, bd_s, bv_s, i32_nl, i32_n, i32_add, i32_sub, i32_mul, i32_neg, i32_ca, i32_cm, i32_cs, i32_cn, i32_le, i32_lt, i32_eq, i32_cl, Int.toNat_natCast, if_pos, if_neg, ite_true, ite_false, not_true_eq_false, not_false_eq_true, Nat.add_zero, Nat.zero_add, Nat.add_sub_cancel, ck_p, cko_si, cka_si, cko_sl, cka_sl, gi_e, gi_x, gl_e, gl_x, gr_si, gl_si, gi_sl, gr_sl])
            exact IH hc _ _ _ _ ⟨rfl, q2, F1.tr0 F2', rfl, rfl, fun _ => hs⟩
        · have : i = k := by omega
          subst this
          (try simp (disch := omega) only [vl_s, bp_s, bd_s, bv_s, i32_nl, i32_n, i32_add, i32_sub, i32_mul, i32_neg, i32_ca, i32_cm, i32_cs, i32_cn, i32_le, i32_lt, i32_eq, i32_cl, Int.toNat_natCast, if_pos, if_neg, ite_true, ite_false, not_true_eq_false, not_false_eq_true, Nat.add_zero, Nat.zero_add, Nat.add_sub_cancel, ck_p, cko_si, cka_si, cko_sl, cka_sl, gi_e, gi_x, gl_e, gl_x, gr_si, gl_si, gi_sl, gr_sl, cko_c hm1.k (show 3 ∈ [3] by decide), dr_c hm1.r2, dr_c hm1.r9, dr_c hm1.r10, dr_c hm1.r11, dr_c hm1.r12, dr_c hm1.r13, dr_c hm1.r14, dr_c hm1.r15, dr_c hm1.r16, dr_c hm1.r21, dr_c hm1.r23, dr_c hm1.r24, dr_c hm1.r27, dr_c hm1.r28, dr_c hm1.r30, dr_c hm1.r33, dr_c hm1.r34, dr_c hm1.r36, dr_c hm1.r37, dr_c hm1.r38, dr_c hm1.r41, dr_c hm1.r43, dr_c hm1.r44, dr_c hm1.r45, dr_c hm1.r46, dr_c hm1.r47, dr_c hm1.r50, dr_c hm1.r51, dr_c hm1.r52, cka_i hm1.k162 hm1.l162, cka_i hm1.k163 hm1.l163, cka_i hm1.k164 hm1.l164, cka_i hm1.k165 hm1.l165, cka_i hm1.k166 hm1.l166, cka_i hm1.k167 hm1.l167, cka_i hm1.k168 hm1.l168, cka_i hm1.k169 hm1.l169, cka_i hm1.k170 hm1.l170, cka_i hm1.k171 hm1.l171, cka_i hm1.k172 hm1.l172, cka_i hm1.k173 hm1.l173, cka_i hm1.k174 hm1.l174, cka_i hm1.k175 hm1.l175, cka_i hm1.k176 hm1.l176, cka_i hm1.k177 hm1.l177, cka_i hm1.k178 hm1.l178, cka_i hm1.k179 hm1.l179, cka_i hm1.k180 hm1.l180, cka_i hm1.k181 hm1.l181, cka_i hm1.k182 hm1.l182, cka_i hm1.k183 hm1.l183, cka_i hm1.k184 hm1.l184, cka_i hm1.k185 hm1.l185, cka_i hm1.k186 hm1.l186, cka_i hm1.k187 hm1.l187, cka_i hm1.k188 hm1.l188, cka_i hm1.k189 hm1.l189, cka_i hm1.k190 hm1.l190])
          exact fin σ1 _ _ q1 F1 (ch_ok j (by omega) i (by omega)) (by rw [e0, if_neg (hd (by omega))])
      · (try simp (disch := omega) only [vl_s, bp_s, bd_s, bv_s, i32_nl, i32_n, i32_add, i32_sub, i32_mul, i32_neg, i32_ca, i32_cm, i32_cs, i32_cn, i32_le, i32_lt, i32_eq, i32_cl, Int.toNat_natCast, if_pos, if_neg, ite_true, ite_false, not_true_eq_false, not_false_eq_true, Nat.add_zero, Nat.zero_add, Nat.add_sub_cancel, ck_p, cko_si, cka_si, cko_sl, cka_sl, gi_e, gi_x, gl_e, gl_x, gr_si, gl_si, gi_sl, gr_sl, cko_c hm.k (show 3 ∈ [3] by decide), dr_c hm.r2, dr_c hm.r9, dr_c hm.r10, dr_c hm.r11, dr_c hm.r12, dr_c hm.r13, dr_c hm.r14, dr_c hm.r15, dr_c hm.r16, dr_c hm.r21, dr_c hm.r23, dr_c hm.r24, dr_c hm.r27, dr_c hm.r28, dr_c hm.r30, dr_c hm.r33, dr_c hm.r34, dr_c hm.r36, dr_c hm.r37, dr_c hm.r38, dr_c hm.r41, dr_c hm.r43, dr_c hm.r44, dr_c hm.r45, dr_c hm.r46, dr_c hm.r47, dr_c hm.r50, dr_c hm.r51, dr_c hm.r52, cka_i hm.k162 hm.l162, cka_i hm.k163 hm.l163, cka_i hm.k164 hm.l164, cka_i hm.k165 hm.l165, cka_i hm.k166 hm.l166, cka_i hm.k167 hm.l167, cka_i hm.k168 hm.l168, cka_i hm.k169 hm.l169, cka_i hm.k170 hm.l170, cka_i hm.k171 hm.l171, cka_i hm.k172 hm.l172, cka_i hm.k173 hm.l173, cka_i hm.k174 hm.l174, cka_i hm.k175 hm.l175, cka_i hm.k176 hm.l176, cka_i hm.k177 hm.l177, cka_i hm.k178 hm.l178, cka_i hm.k179 hm.l179, cka_i hm.k180 hm.l180, cka_i hm.k181 hm.l181, cka_i hm.k182 hm.l182, cka_i hm.k183 hm.l183, cka_i hm.k184 hm.l184, cka_i hm.k185 hm.l185, cka_i hm.k186 hm.l186, cka_i hm.k187 hm.l187, cka_i hm.k188 hm.l188, cka_i hm.k189 hm.l189, cka_i hm.k190 hm.l190, X3_inI, X1_inI, i32_64, b01_i0, b01_i1, i64_m1, i64_0, i64_1, i64_2, i64_3, i64_8, i64_9, i64_10, i64_12, i64_15, i64_18, i64_20, i64_24, i64_30, i64_39, i64_48, i64_57, i64_60, i64_99, i64_100, i64_999, i64_99999])
        exact no (fun q => c3 q.2.2)
    · (try simp (disch := omega) only [vl_s, bp_s, bd_s, bv_s, i32_nl, i32_n, i32_add, i32_sub, i32_mul, i32_neg, i32_ca, i32_cm, i32_cs, i32_cn, i32_le, i32_lt, i32_eq, i32_cl, Int.toNat_natCast, if_pos, if_neg, ite_true, ite_false, not_true_eq_false, not_false_eq_true, Nat.add_zero, Nat.zero_add, Nat.add_sub_cancel, ck_p, cko_si, cka_si, cko_sl, cka_sl, gi_e, gi_x, gl_e, gl_x, gr_si, gl_si, gi_sl, gr_sl, cko_c hm.k (show 3 ∈ [3] by decide), dr_c hm.r2, dr_c hm.r9, dr_c hm.r10, dr_c hm.r11, dr_c hm.r12, dr_c hm.r13, dr_c hm.r14, dr_c hm.r15, dr_c hm.r16, dr_c hm.r21, dr_c hm.r23, dr_c hm.r24, dr_c hm.r27, dr_c hm.r28, dr_c hm.r30, dr_c hm.r33, dr_c hm.r34, dr_c hm.r36, dr_c hm.r37, dr_c hm.r38, dr_c hm.r41, dr_c hm.r43, dr_c hm.r44, dr_c hm.r45, dr_c hm.r46, dr_c hm.r47, dr_c hm.r50, dr_c hm.r51, dr_c hm.r52, cka_i hm.k162 hm.l162, cka_i hm.k163 hm.l163, cka_i hm.k164 hm.l164, cka_i hm.k165 hm.l165, cka_i hm.k166 hm.l166, cka_i hm.k167 hm.l167, cka_i hm.k168 hm.l168, cka_i hm.k169 hm.l169, cka_i hm.k170 hm.l170, cka_i hm.k171 hm.l171, cka_i hm.k172 hm.l172, cka_i hm.k173 hm.l173, cka_i hm.k174 hm.l174, cka_i hm.k175 hm.l175, cka_i hm.k176 hm.l176, cka_i hm.k177 hm.l177, cka_i hm.k178 hm.l178, cka_i hm.k179 hm.l179, cka_i hm.k180 hm.l180, cka_i hm.k181 hm.l181, cka_i hm.k182 hm.l182, cka_i hm.k183 hm.l183, cka_i hm.k184 hm.l184, cka_i hm.k185 hm.l185, cka_i hm.k186 hm.l186, cka_i hm.k187 hm.l187, cka_i hm.k188 hm.l188, cka_i hm.k189 hm.l189, cka_i hm.k190 hm.l190, X3_inI, X1_inI, i32_64, b01_i0, b01_i1, i64_m1, i64_0, i64_1, i64_2, i64_3, i64_8, i64_9, i64_10, i64_12, i64_15, i64_18, i64_20, i64_24, i64_30, i64_39, i64_48, i64_57, i64_60, i64_99, i64_100, i64_999, i64_99999])
      exact no (fun q => c2 q.2.1)
  · (try simp (disch := omega) only [vl_s, bp_s, bd_s, bv_s, i32_nl, i32_n, i32_add, i32_sub, i32_mul, i32_neg, i32_ca, i32_cm, i32_cs, i32_cn, i32_le, i32_lt, i32_eq, i32_cl, Int.toNat_natCast, if_pos, if_neg, ite_true, ite_false, not_true_eq_false, not_false_eq_true, Nat.add_zero, Nat.zero_add, Nat.add_sub_cancel, ck_p, cko_si, cka_si, cko_sl, cka_sl, gi_e, gi_x, gl_e, gl_x, gr_si, gl_si, gi_sl, gr_sl, cko_c hm.k (show 3 ∈ [3] by decide), dr_c hm.r2, dr_c hm.r9, dr_c hm.r10, dr_c hm.r11, dr_c hm.r12, dr_c hm.r13, dr_c hm.r14, dr_c hm.r15, dr_c hm.r16, dr_c hm.r21, dr_c hm.r23, dr_c hm.r24, dr_c hm.r27, dr_c hm.r28, dr_c hm.r30, dr_c hm.r33, dr_c hm.r34, dr_c hm.r36, dr_c hm.r37, dr_c hm.r38, dr_c hm.r41, dr_c hm.r43, dr_c hm.r44, dr_c hm.r45, dr_c hm.r46, dr_c hm.r47, dr_c hm.r50, dr_c hm.r51, dr_c hm.r52, cka_i hm.k162 hm.l162, cka_i hm.k163 hm.l163, cka_i hm.k164 hm.l164, cka_i hm.k165 hm.l165, cka_i hm.k166 hm.l166, cka_i hm.k167 hm.l167, cka_i hm.k168 hm.l168, cka_i hm.k169 hm.l169, cka_i hm.k170 hm.l170, cka_i hm.k171 hm.l171, cka_i hm.k172 hm.l172, cka_i hm.k173 hm.l173, cka_i hm.k174 hm.l174, cka_i hm.k175 hm.l175, cka_i hm.k176 hm.l176, cka_i hm.k177 hm.l177, cka_i hm.k178 hm.l178, cka_i hm.k179 hm.l179, cka_i hm.k180 hm.l180, cka_i hm.k181 hm.l181, cka_i hm.k182 hm.l182, cka_i hm.k183 hm.l183, cka_i hm.k184 hm.l184, cka_i hm.k185 hm.l185, cka_i hm.k186 hm.l186, cka_i hm.k187 hm.l187, cka_i hm.k188 hm.l188, cka_i hm.k189 hm.l189, cka_i hm.k190 hm.l190, X3_inI, X1_inI, i32_64, b01_i0, b01_i1, i64_m1, i64_0, i64_1, i64_2, i64_3, i64_8, i64_9, i64_10, i64_12, i64_15, i64_18, i64_20, i64_24, i64_30, i64_39, i64_48, i64_57, i64_60, i64_99, i64_100, i64_999, i64_99999])
    exact no (fun q => c1 q.1)
