/-! THE MODEL: the fewest orders by lanes, laid out -/
set_option maxRecDepth 100000
theorem M_turned2 {S : St} {σ : vMem} {v : Int} (h : RM S σ) (g : gShp S.shp) (h1 : -2 ≤ v) (h2 : v ≤ 2) : f_X3_turned σ 161 (i32 v) = some (i32 (turnS S v)) := by
  have hm := h.ml
  have q5 := h.shp.2.2.1
  have b := liars_b S.shp S.shp.2.1
  have g3 := g.2.2.1
  unfold f_X3_turned turnS
  simp (disch := omega) only [vl_s, bp_s, bd_s, bv_s, i32_nl, i32_n, i32_add, i32_sub, i32_mul, i32_neg, i32_ca, i32_cm, i32_cs, i32_cn, i32_le, i32_lt, i32_eq, i32_cl, Int.toNat_natCast, if_pos, if_neg, ite_true, ite_false, not_true_eq_false, not_false_eq_true, Nat.add_zero, Nat.zero_add, Nat.add_sub_cancel, ck_p, cko_si, cka_si, cko_sl, cka_sl, gi_e, gi_x, gl_e, gl_x, gr_si, gl_si, gi_sl, gr_sl, cko_c hm.k (show 3 ∈ [3] by decide), dr_c hm.r2, dr_c hm.r9, dr_c hm.r10, dr_c hm.r11, dr_c hm.r12, dr_c hm.r13, dr_c hm.r14, dr_c hm.r15, dr_c hm.r16, dr_c hm.r21, dr_c hm.r23, dr_c hm.r24, dr_c hm.r27, dr_c hm.r28, dr_c hm.r30, dr_c hm.r33, dr_c hm.r34, dr_c hm.r36, dr_c hm.r37, dr_c hm.r38, dr_c hm.r41, dr_c hm.r43, dr_c hm.r44, dr_c hm.r45, dr_c hm.r46, dr_c hm.r47, dr_c hm.r50, dr_c hm.r51, dr_c hm.r52, cka_i hm.k162 hm.l162, cka_i hm.k163 hm.l163, cka_i hm.k164 hm.l164, cka_i hm.k165 hm.l165, cka_i hm.k166 hm.l166, cka_i hm.k167 hm.l167, cka_i hm.k168 hm.l168, cka_i hm.k169 hm.l169, cka_i hm.k170 hm.l170, cka_i hm.k171 hm.l171, cka_i hm.k172 hm.l172, cka_i hm.k173 hm.l173, cka_i hm.k174 hm.l174, cka_i hm.k175 hm.l175, cka_i hm.k176 hm.l176, cka_i hm.k177 hm.l177, cka_i hm.k178 hm.l178, cka_i hm.k179 hm.l179, cka_i hm.k180 hm.l180, cka_i hm.k181 hm.l181, cka_i hm.k182 hm.l182, cka_i hm.k183 hm.l183, cka_i hm.k184 hm.l184, cka_i hm.k185 hm.l185, cka_i hm.k186 hm.l186, cka_i hm.k187 hm.l187, cka_i hm.k188 hm.l188, cka_i hm.k189 hm.l189, cka_i hm.k190 hm.l190, q5, i32_div]
  by_cases c : liars S.shp S.shp.2.1 - liars S.shp S.shp.2.1 / 2 * 2 = 1
  · rw [if_neg (by omega), if_pos c]
  · rw [if_pos (by omega), if_neg c]
def mayB (S : St) (k : Nat) : Bool := decide (0 < k ∨ S.now.given ≠ S.now.now)
def comesB (S : St) (k t : Nat) : Bool := mayB S k && decide (doneF S k = t)
theorem M_mayGive {S : St} {σ : vMem} {B : Int} {k : Nat} (hm : ML σ) (h0 : gi σ 168 0 = i32 S.now.now) (h4 : gi σ 168 4 = i32 S.now.given) (g : gW B S.now) (hB : B ≤ 900000) (hk : k ≤ 1000) : f_X3_mayGive σ 161 (i32 k) = some (bI (mayB S k)) := by
  obtain ⟨⟨n1, n2, n3, n4, n5, n6, n7⟩, n8⟩ := g
  unfold f_X3_mayGive mayB
  by_cases c : 0 < k
  · rw [decide_eq_true (Or.inl c), bI_t]
    (try simp (disch := omega) only [vl_s, bp_s, bd_s, bv_s, i32_nl, i32_n, i32_add, i32_sub, i32_mul, i32_neg, i32_ca, i32_cm, i32_cs, i32_cn, i32_le, i32_lt, i32_eq, i32_cl, Int.toNat_natCast, if_pos, if_neg, ite_true, ite_false, not_true_eq_false, not_false_eq_true, Nat.add_zero, Nat.zero_add, Nat.add_sub_cancel, ck_p, cko_si, cka_si, cko_sl, cka_sl, gi_e, gi_x, gl_e, gl_x, gr_si, gl_si, gi_sl, gr_sl])
  · by_cases c2 : S.now.given = S.now.now
    · rw [decide_eq_false (fun q => q.elim c (fun q => q c2)), bI_f]
      (try simp (disch := omega) only [vl_s, bp_s, bd_s, bv_s, i32_nl, i32_n, i32_add, i32_sub, i32_mul, i32_neg, i32_ca, i32_cm, i32_cs, i32_cn, i32_le, i32_lt, i32_eq, i32_cl, Int.toNat_natCast, if_pos, if_neg, ite_true, ite_false, not_true_eq_false, not_false_eq_true, Nat.add_zero, Nat.zero_add, Nat.add_sub_cancel, ck_p, cko_si, cka_si, cko_sl, cka_sl, gi_e, gi_x, gl_e, gl_x, gr_si, gl_si, gi_sl, gr_sl, cko_c hm.k (show 3 ∈ [3] by decide), dr_c hm.r2, dr_c hm.r9, dr_c hm.r10, dr_c hm.r11, dr_c hm.r12, dr_c hm.r13, dr_c hm.r14, dr_c hm.r15, dr_c hm.r16, dr_c hm.r21, dr_c hm.r23, dr_c hm.r24, dr_c hm.r27, dr_c hm.r28, dr_c hm.r30, dr_c hm.r33, dr_c hm.r34, dr_c hm.r36, dr_c hm.r37, dr_c hm.r38, dr_c hm.r41, dr_c hm.r43, dr_c hm.r44, dr_c hm.r45, dr_c hm.r46, dr_c hm.r47, dr_c hm.r50, dr_c hm.r51, dr_c hm.r52, cka_i hm.k162 hm.l162, cka_i hm.k163 hm.l163, cka_i hm.k164 hm.l164, cka_i hm.k165 hm.l165, cka_i hm.k166 hm.l166, cka_i hm.k167 hm.l167, cka_i hm.k168 hm.l168, cka_i hm.k169 hm.l169, cka_i hm.k170 hm.l170, cka_i hm.k171 hm.l171, cka_i hm.k172 hm.l172, cka_i hm.k173 hm.l173, cka_i hm.k174 hm.l174, cka_i hm.k175 hm.l175, cka_i hm.k176 hm.l176, cka_i hm.k177 hm.l177, cka_i hm.k178 hm.l178, cka_i hm.k179 hm.l179, cka_i hm.k180 hm.l180, cka_i hm.k181 hm.l181, cka_i hm.k182 hm.l182, cka_i hm.k183 hm.l183, cka_i hm.k184 hm.l184, cka_i hm.k185 hm.l185, cka_i hm.k186 hm.l186, cka_i hm.k187 hm.l187, cka_i hm.k188 hm.l188, cka_i hm.k189 hm.l189, cka_i hm.k190 hm.l190, h0, h4])
    · rw [decide_eq_true (Or.inr c2), bI_t]
      (try simp (disch := omega) only [vl_s, bp_s, bd_s, bv_s, i32_nl, i32_n, i32_add, i32_sub, i32_mul, i32_neg, i32_ca, i32_cm, i32_cs, i32_cn, i32_le, i32_lt, i32_eq, i32_cl, Int.toNat_natCast, if_pos, if_neg, ite_true, ite_false, not_true_eq_false, not_false_eq_true, Nat.add_zero, Nat.zero_add, Nat.add_sub_cancel, ck_p, cko_si, cka_si, cko_sl, cka_sl, gi_e, gi_x, gl_e, gl_x, gr_si, gl_si, gi_sl, gr_sl, cko_c hm.k (show 3 ∈ [3] by decide), dr_c hm.r2, dr_c hm.r9, dr_c hm.r10, dr_c hm.r11, dr_c hm.r12, dr_c hm.r13, dr_c hm.r14, dr_c hm.r15, dr_c hm.r16, dr_c hm.r21, dr_c hm.r23, dr_c hm.r24, dr_c hm.r27, dr_c hm.r28, dr_c hm.r30, dr_c hm.r33, dr_c hm.r34, dr_c hm.r36, dr_c hm.r37, dr_c hm.r38, dr_c hm.r41, dr_c hm.r43, dr_c hm.r44, dr_c hm.r45, dr_c hm.r46, dr_c hm.r47, dr_c hm.r50, dr_c hm.r51, dr_c hm.r52, cka_i hm.k162 hm.l162, cka_i hm.k163 hm.l163, cka_i hm.k164 hm.l164, cka_i hm.k165 hm.l165, cka_i hm.k166 hm.l166, cka_i hm.k167 hm.l167, cka_i hm.k168 hm.l168, cka_i hm.k169 hm.l169, cka_i hm.k170 hm.l170, cka_i hm.k171 hm.l171, cka_i hm.k172 hm.l172, cka_i hm.k173 hm.l173, cka_i hm.k174 hm.l174, cka_i hm.k175 hm.l175, cka_i hm.k176 hm.l176, cka_i hm.k177 hm.l177, cka_i hm.k178 hm.l178, cka_i hm.k179 hm.l179, cka_i hm.k180 hm.l180, cka_i hm.k181 hm.l181, cka_i hm.k182 hm.l182, cka_i hm.k183 hm.l183, cka_i hm.k184 hm.l184, cka_i hm.k185 hm.l185, cka_i hm.k186 hm.l186, cka_i hm.k187 hm.l187, cka_i hm.k188 hm.l188, cka_i hm.k189 hm.l189, cka_i hm.k190 hm.l190, h0, h4])
theorem M_comesAt {S : St} {σ : vMem} {B : Int} {k t : Nat} (h : RM S σ) (g : gSt B S) (hB : B ≤ 900000) (hk : k ≤ 1000) (ht : t ≤ 1000) : ok (f_X3_comesAt σ 161 (i32 k) (i32 t)) (fun r => r.1 = bI (comesB S k t) ∧ RM S r.2 ∧ Fr (fun b _ => b ≠ 174 ∧ b ≠ 175) 0 0 σ r.2) := by
  have hm := h.ml
  have h0 := h.now.1
  have mg := M_mayGive (k := k) hm h.now.1 h.now.2.2.2.2.1 g.now hB hk
  obtain ⟨⟨n1, n2, n3⟩, n4⟩ := g.now
  have db := dly_b S (S.now.now + k)
  have dd : doneF S k = k + dly S (S.now.now + k) := rfl
  generalize hQ : (fun r : Int32 × vMem => r.1 = bI (comesB S k t) ∧ RM S r.2 ∧ Fr (fun b _ => b ≠ 174 ∧ b ≠ 175) 0 0 σ r.2) = Q
  have ec : comesB S k t = (mayB S k && decide (doneF S k = t)) := rfl
  unfold f_X3_comesAt
  cases hmb : mayB S k with
  | false =>
    rw [hmb, bI_f] at mg
    (try simp (disch := omega) only [vl_s, bp_s, bd_s, bv_s, i32_nl, i32_n, i32_add, i32_sub, i32_mul, i32_neg, i32_ca, i32_cm, i32_cs, i32_cn, i32_le, i32_lt, i32_eq, i32_cl, Int.toNat_natCast, if_pos, if_neg, ite_true, ite_false, not_true_eq_false, not_false_eq_true, Nat.add_zero, Nat.zero_add, Nat.add_sub_cancel, ck_p, cko_si, cka_si, cko_sl, cka_sl, gi_e, gi_x, gl_e, gl_x, gr_si, gl_si, gi_sl, gr_sl, cko_c hm.k (show 3 ∈ [3] by decide), dr_c hm.r2, dr_c hm.r9, dr_c hm.r10, dr_c hm.r11, dr_c hm.r12, dr_c hm.r13, dr_c hm.r14, dr_c hm.r15, dr_c hm.r16, dr_c hm.r21, dr_c hm.r23, dr_c hm.r24, dr_c hm.r27, dr_c hm.r28, dr_c hm.r30, dr_c hm.r33, dr_c hm.r34, dr_c hm.r36, dr_c hm.r37, dr_c hm.r38, dr_c hm.r41, dr_c hm.r43, dr_c hm.r44, dr_c hm.r45, dr_c hm.r46, dr_c hm.r47, dr_c hm.r50, dr_c hm.r51, dr_c hm.r52, cka_i hm.k162 hm.l162, cka_i hm.k163 hm.l163, cka_i hm.k164 hm.l164, cka_i hm.k165 hm.l165, cka_i hm.k166 hm.l166, cka_i hm.k167 hm.l167, cka_i hm.k168 hm.l168, cka_i hm.k169 hm.l169, cka_i hm.k170 hm.l170, cka_i hm.k171 hm.l171, cka_i hm.k172 hm.l172, cka_i hm.k173 hm.l173, cka_i hm.k174 hm.l174, cka_i hm.k175 hm.l175, cka_i hm.k176 hm.l176, cka_i hm.k177 hm.l177, cka_i hm.k178 hm.l178, cka_i hm.k179 hm.l179, cka_i hm.k180 hm.l180, cka_i hm.k181 hm.l181, cka_i hm.k182 hm.l182, cka_i hm.k183 hm.l183, cka_i hm.k184 hm.l184, cka_i hm.k185 hm.l185, cka_i hm.k186 hm.l186, cka_i hm.k187 hm.l187, cka_i hm.k188 hm.l188, cka_i hm.k189 hm.l189, cka_i hm.k190 hm.l190, mg])
    rw [← hQ, ec, hmb]
    exact ok_some ⟨rfl, h, Fr.rf⟩
  | true =>
    rw [hmb, bI_t] at mg
    rw [hmb, Bool.true_and] at ec
    (try simp (disch := omega) only [vl_s, bp_s, bd_s, bv_s, i32_nl, i32_n, i32_add, i32_sub, i32_mul, i32_neg, i32_ca, i32_cm, i32_cs, i32_cn, i32_le, i32_lt, i32_eq, i32_cl, Int.toNat_natCast, if_pos, if_neg, ite_true, ite_false, not_true_eq_false, not_false_eq_true, Nat.add_zero, Nat.zero_add, Nat.add_sub_cancel, ck_p, cko_si, cka_si, cko_sl, cka_sl, gi_e, gi_x, gl_e, gl_x, gr_si, gl_si, gi_sl, gr_sl, cko_c hm.k (show 3 ∈ [3] by decide), dr_c hm.r2, dr_c hm.r9, dr_c hm.r10, dr_c hm.r11, dr_c hm.r12, dr_c hm.r13, dr_c hm.r14, dr_c hm.r15, dr_c hm.r16, dr_c hm.r21, dr_c hm.r23, dr_c hm.r24, dr_c hm.r27, dr_c hm.r28, dr_c hm.r30, dr_c hm.r33, dr_c hm.r34, dr_c hm.r36, dr_c hm.r37, dr_c hm.r38, dr_c hm.r41, dr_c hm.r43, dr_c hm.r44, dr_c hm.r45, dr_c hm.r46, dr_c hm.r47, dr_c hm.r50, dr_c hm.r51, dr_c hm.r52, cka_i hm.k162 hm.l162, cka_i hm.k163 hm.l163, cka_i hm.k164 hm.l164, cka_i hm.k165 hm.l165, cka_i hm.k166 hm.l166, cka_i hm.k167 hm.l167, cka_i hm.k168 hm.l168, cka_i hm.k169 hm.l169, cka_i hm.k170 hm.l170, cka_i hm.k171 hm.l171, cka_i hm.k172 hm.l172, cka_i hm.k173 hm.l173, cka_i hm.k174 hm.l174, cka_i hm.k175 hm.l175, cka_i hm.k176 hm.l176, cka_i hm.k177 hm.l177, cka_i hm.k178 hm.l178, cka_i hm.k179 hm.l179, cka_i hm.k180 hm.l180, cka_i hm.k181 hm.l181, cka_i hm.k182 hm.l182, cka_i hm.k183 hm.l183, cka_i hm.k184 hm.l184, cka_i hm.k185 hm.l185, cka_i hm.k186 hm.l186, cka_i hm.k187 hm.l187, cka_i hm.k188 hm.l188, cka_i hm.k189 hm.l189, cka_i hm.k190 hm.l190, mg, h0])
    refine ok_bd (M_delayAt (s := S.now.now + k) h g (by omega) (by omega)) ?_
    rintro y σ1 ⟨rfl, q1, F1⟩
    by_cases c : doneF S k = t
    · (try simp (disch := omega) only [vl_s, bp_s, bd_s, bv_s, i32_nl, i32_n, i32_add, i32_sub, i32_mul, i32_neg, i32_ca, i32_cm, i32_cs, i32_cn, i32_le, i32_lt, i32_eq, i32_cl, Int.toNat_natCast, if_pos, if_neg, ite_true, ite_false, not_true_eq_false, not_false_eq_true, Nat.add_zero, Nat.zero_add, Nat.add_sub_cancel, ck_p, cko_si, cka_si, cko_sl, cka_sl, gi_e, gi_x, gl_e, gl_x, gr_si, gl_si, gi_sl, gr_sl])
      rw [← hQ, ec, decide_eq_true c]
      exact ok_some ⟨rfl, q1, F1⟩
    · (try simp (disch := omega) only [vl_s, bp_s, bd_s, bv_s, i32_nl, i32_n, i32_add, i32_sub, i32_mul, i32_neg, i32_ca, i32_cm, i32_cs, i32_cn, i32_le, i32_lt, i32_eq, i32_cl, Int.toNat_natCast, if_pos, if_neg, ite_true, ite_false, not_true_eq_false, not_false_eq_true, Nat.add_zero, Nat.zero_add, Nat.add_sub_cancel, ck_p, cko_si, cka_si, cko_sl, cka_sl, gi_e, gi_x, gl_e, gl_x, gr_si, gl_si, gi_sl, gr_sl])
      rw [← hQ, ec, decide_eq_false c]
      exact ok_some ⟨rfl, q1, F1⟩
def dueC (S : St) (t : Nat) (c : Nat → Int) : Nat → (Nat → Int)
  | 0 => c
  | k + 1 => match S.now.ways[k]? with
    | some q => if q.1 = S.now.now + t then goesF (dueC S t c k) q.2.1 false else dueC S t c k
    | none => dueC S t c k
def comC (S : St) (ch : Nat → Int) (t : Nat) (c : Nat → Int) : Nat → (Nat → Int)
  | 0 => c
  | k + 1 => if comesB S k t then goesF (comC S ch t c k) (turnS S (ch k)) (decide (ch k = 2)) else comC S ch t c k
def hitC (S : St) (t : Nat) (c : Nat → Int) (l : Nat) : Int := if 0 < hitN S.rck (S.now.now + t) l then 1000 else c l
/-- the fewest orders by lanes in so many steps -/
def leastF (S : St) (ch : Nat → Int) : Nat → (Nat → Int)
  | 0 => fun l => if (l : Int) = S.now.lane then 0 else 1000
  | t + 1 => hitC S (t + 1) (comC S ch (t + 1) (dueC S (t + 1) (leastF S ch t) S.now.ways.length) (t + 1))
theorem dueC_g {S : St} {t : Nat} {c : Nat → Int} (hc : gC c) : ∀ k, gC (dueC S t c k)
  | 0 => hc
  | k + 1 => by
    have ih := dueC_g (S := S) (t := t) hc k
    unfold dueC
    split
    · split
      · exact goesF_g ih
      · exact ih
    · exact ih
theorem comC_g {S : St} {ch : Nat → Int} {t : Nat} {c : Nat → Int} (hc : gC c) : ∀ k, gC (comC S ch t c k)
  | 0 => hc
  | k + 1 => by
    have ih := comC_g (S := S) (ch := ch) (t := t) hc k
    unfold comC
    split
    · exact goesF_g ih
    · exact ih
theorem leastF_g (S : St) (ch : Nat → Int) : ∀ t, gC (leastF S ch t)
  | 0 => fun l _ => by
    show 0 ≤ (if (l : Int) = S.now.lane then (0 : Int) else 1000) ∧ (if (l : Int) = S.now.lane then (0 : Int) else 1000) ≤ 1000
    split <;> omega
  | t + 1 => fun l hl => by
    have h := comC_g (S := S) (ch := ch) (t := t + 1) (dueC_g (S := S) (t := t + 1) (leastF_g S ch t) S.now.ways.length) (t + 1) l hl
    show 0 ≤ hitC S (t + 1) _ l ∧ hitC S (t + 1) _ l ≤ 1000
    unfold hitC
    split
    · omega
    · exact h
/-- the model with costs laid out, choices made -/
def LstAt (S : St) (ch : Nat → Int) (σ : vMem) (c : Nat → Int) : Prop := RM S σ ∧ ArrIs σ 180 9 c ∧ ArrIs σ 179 30 ch
def gCh (ch : Nat → Int) : Prop := ∀ k, k < 30 → -1 ≤ ch k ∧ ch k ≤ 2
theorem LstAt.go {S : St} {ch c c' : Nat → Int} {σ σ1 : vMem} (h : LstAt S ch σ c) (F : Fr K180 0 0 σ σ1) (a : ArrIs σ1 180 9 c') : LstAt S ch σ1 c' := ⟨h.1.u0 (F.mono K180_M), a, fun k hk => by rw [F.i (by have := h.1.mn; omega) (by show (179 : Nat) ≠ 180 ∧ (179 : Nat) ≠ 181; decide)]; exact h.2.2 k hk⟩
theorem M_ll46 {S : St} {ch : Nat → Int} {σ : vMem} {B : Int} {c : Nat → Int} {x1 : Int32} {t : Nat} {K : vMem → Option vMem} {Q : vMem → Prop} (h : LstAt S ch σ c) (hc : gC c) (g : gSt B S) (hB : B ≤ 900000) (ht : t ≤ 30) (hK : ∀ σ1, LstAt S ch σ1 (dueC S t c S.now.ways.length) → Fr (KM [0]) 0 0 σ σ1 → ok (K σ1) Q) : ok (f_X3_laysLeast_46 161 x1 (i32 t) K FU σ (i32 ((0 : Nat) : Int))) Q := by
  have gw := g.now
  obtain ⟨⟨n1, n2, n3, n4, n5, n6, n7⟩, n8, n9⟩ := gw
  refine loop2 (F := f_X3_laysLeast_46 161 x1 (i32 t) K) S.now.ways.length (fun k σ1 v => v = i32 k ∧ LstAt S ch σ1 (dueC S t c k) ∧ Fr (KM [0]) 0 0 σ σ1) ?_ FU 0 σ _ (by omega) ⟨rfl, h, Fr.rf⟩ (by unfold FU; omega)
  rintro n k σ1 v hk ⟨rfl, q1, F1⟩ IH
  have hm1 := q1.1.ml
  have hn1 := q1.1.mn
  have e0 := q1.1.now.1
  have e3 := q1.1.now.2.2.2.1
  rw [f_X3_laysLeast_46.eq_2]
  by_cases d : k < S.now.ways.length
  · obtain ⟨q, hq⟩ : ∃ q, S.now.ways[k]? = some q := ⟨S.now.ways[k], List.getElem?_eq_getElem d⟩
    have eq := q1.1.now.2.2.2.2.2.1 k q hq
    have gq := n8 q (List.mem_of_getElem? hq)
    have ed : dueC S t c (k + 1) = if q.1 = S.now.now + t then goesF (dueC S t c k) q.2.1 false else dueC S t c k := by
      conv => lhs; unfold dueC
      rw [hq]
    by_cases e : q.1 = S.now.now + t
    · rw [if_pos e] at ed
      (try simp (disch := omega) only [vl_s, bp_s, bd_s, bv_s, i32_nl, i32_n, i32_add, i32_sub, i32_mul, i32_neg, i32_ca, i32_cm, i32_cs, i32_cn, i32_le, i32_lt, i32_eq, i32_cl, Int.toNat_natCast, if_pos, if_neg, ite_true, ite_false, not_true_eq_false, not_false_eq_true, Nat.add_zero, Nat.zero_add, Nat.add_sub_cancel, ck_p, cko_si, cka_si, cko_sl, cka_sl, gi_e, gi_x, gl_e, gl_x, gr_si, gl_si, gi_sl, gr_sl, cko_c hm1.k (show 3 ∈ [3] by decide), dr_c hm1.r2, dr_c hm1.r9, dr_c hm1.r10, dr_c hm1.r11, dr_c hm1.r12, dr_c hm1.r13, dr_c hm1.r14, dr_c hm1.r15, dr_c hm1.r16, dr_c hm1.r21, dr_c hm1.r23, dr_c hm1.r24, dr_c hm1.r27, dr_c hm1.r28, dr_c hm1.r30, dr_c hm1.r33, dr_c hm1.r34, dr_c hm1.r36, dr_c hm1.r37, dr_c hm1.r38, dr_c hm1.r41, dr_c hm1.r43, dr_c hm1.r44, dr_c hm1.r45, dr_c hm1.r46, dr_c hm1.r47, dr_c hm1.r50, dr_c hm1.r51, dr_c hm1.r52, cka_i hm1.k162 hm1.l162, cka_i hm1.k163 hm1.l163, cka_i hm1.k164 hm1.l164, cka_i hm1.k165 hm1.l165, cka_i hm1.k166 hm1.l166, cka_i hm1.k167 hm1.l167, cka_i hm1.k168 hm1.l168, cka_i hm1.k169 hm1.l169, cka_i hm1.k170 hm1.l170, cka_i hm1.k171 hm1.l171, cka_i hm1.k172 hm1.l172, cka_i hm1.k173 hm1.l173, cka_i hm1.k174 hm1.l174, cka_i hm1.k175 hm1.l175, cka_i hm1.k176 hm1.l176, cka_i hm1.k177 hm1.l177, cka_i hm1.k178 hm1.l178, cka_i hm1.k179 hm1.l179, cka_i hm1.k180 hm1.l180, cka_i hm1.k181 hm1.l181, cka_i hm1.k182 hm1.l182, cka_i hm1.k183 hm1.l183, cka_i hm1.k184 hm1.l184, cka_i hm1.k185 hm1.l185, cka_i hm1.k186 hm1.l186, cka_i hm1.k187 hm1.l187, cka_i hm1.k188 hm1.l188, cka_i hm1.k189 hm1.l189, cka_i hm1.k190 hm1.l190, e0, e3, eq.1, eq.2.1])
      have gb := X3_goesBy (v := q.2.1) (any := false) hm1 hn1 (dueC_g (S := S) (t := t) hc k) q1.2.1 (by omega) (by omega) (fun _ => ⟨gq.2.2.1, gq.2.2.2.1⟩)
      rw [bI_f] at gb
      refine ok_bv gb ?_
      rintro σ2 ⟨hm2, F2, a2⟩
      exact IH d _ _ ⟨rfl, by rw [ed]; exact q1.go F2 a2, F1.tr0 (F2.mono K180_M)⟩
    · rw [if_neg e] at ed
      (try simp (disch := omega) only [vl_s, bp_s, bd_s, bv_s, i32_nl, i32_n, i32_add, i32_sub, i32_mul, i32_neg, i32_ca, i32_cm, i32_cs, i32_cn, i32_le, i32_lt, i32_eq, i32_cl, Int.toNat_natCast, if_pos, if_neg, ite_true, ite_false, not_true_eq_false, not_false_eq_true, Nat.add_zero, Nat.zero_add, Nat.add_sub_cancel, ck_p, cko_si, cka_si, cko_sl, cka_sl, gi_e, gi_x, gl_e, gl_x, gr_si, gl_si, gi_sl, gr_sl, cko_c hm1.k (show 3 ∈ [3] by decide), dr_c hm1.r2, dr_c hm1.r9, dr_c hm1.r10, dr_c hm1.r11, dr_c hm1.r12, dr_c hm1.r13, dr_c hm1.r14, dr_c hm1.r15, dr_c hm1.r16, dr_c hm1.r21, dr_c hm1.r23, dr_c hm1.r24, dr_c hm1.r27, dr_c hm1.r28, dr_c hm1.r30, dr_c hm1.r33, dr_c hm1.r34, dr_c hm1.r36, dr_c hm1.r37, dr_c hm1.r38, dr_c hm1.r41, dr_c hm1.r43, dr_c hm1.r44, dr_c hm1.r45, dr_c hm1.r46, dr_c hm1.r47, dr_c hm1.r50, dr_c hm1.r51, dr_c hm1.r52, cka_i hm1.k162 hm1.l162, cka_i hm1.k163 hm1.l163, cka_i hm1.k164 hm1.l164, cka_i hm1.k165 hm1.l165, cka_i hm1.k166 hm1.l166, cka_i hm1.k167 hm1.l167, cka_i hm1.k168 hm1.l168, cka_i hm1.k169 hm1.l169, cka_i hm1.k170 hm1.l170, cka_i hm1.k171 hm1.l171, cka_i hm1.k172 hm1.l172, cka_i hm1.k173 hm1.l173, cka_i hm1.k174 hm1.l174, cka_i hm1.k175 hm1.l175, cka_i hm1.k176 hm1.l176, cka_i hm1.k177 hm1.l177, cka_i hm1.k178 hm1.l178, cka_i hm1.k179 hm1.l179, cka_i hm1.k180 hm1.l180, cka_i hm1.k181 hm1.l181, cka_i hm1.k182 hm1.l182, cka_i hm1.k183 hm1.l183, cka_i hm1.k184 hm1.l184, cka_i hm1.k185 hm1.l185, cka_i hm1.k186 hm1.l186, cka_i hm1.k187 hm1.l187, cka_i hm1.k188 hm1.l188, cka_i hm1.k189 hm1.l189, cka_i hm1.k190 hm1.l190, e0, e3, eq.1, eq.2.1])
      exact IH d _ _ ⟨rfl, by rw [ed]; exact q1, F1⟩
  · have : k = S.now.ways.length := by omega
    subst this
    (try simp (disch := omega) only [vl_s, bp_s, bd_s, bv_s, i32_nl, i32_n, i32_add, i32_sub, i32_mul, i32_neg, i32_ca, i32_cm, i32_cs, i32_cn, i32_le, i32_lt, i32_eq, i32_cl, Int.toNat_natCast, if_pos, if_neg, ite_true, ite_false, not_true_eq_false, not_false_eq_true, Nat.add_zero, Nat.zero_add, Nat.add_sub_cancel, ck_p, cko_si, cka_si, cko_sl, cka_sl, gi_e, gi_x, gl_e, gl_x, gr_si, gl_si, gi_sl, gr_sl, cko_c hm1.k (show 3 ∈ [3] by decide), dr_c hm1.r2, dr_c hm1.r9, dr_c hm1.r10, dr_c hm1.r11, dr_c hm1.r12, dr_c hm1.r13, dr_c hm1.r14, dr_c hm1.r15, dr_c hm1.r16, dr_c hm1.r21, dr_c hm1.r23, dr_c hm1.r24, dr_c hm1.r27, dr_c hm1.r28, dr_c hm1.r30, dr_c hm1.r33, dr_c hm1.r34, dr_c hm1.r36, dr_c hm1.r37, dr_c hm1.r38, dr_c hm1.r41, dr_c hm1.r43, dr_c hm1.r44, dr_c hm1.r45, dr_c hm1.r46, dr_c hm1.r47, dr_c hm1.r50, dr_c hm1.r51, dr_c hm1.r52, cka_i hm1.k162 hm1.l162, cka_i hm1.k163 hm1.l163, cka_i hm1.k164 hm1.l164, cka_i hm1.k165 hm1.l165, cka_i hm1.k166 hm1.l166, cka_i hm1.k167 hm1.l167, cka_i hm1.k168 hm1.l168, cka_i hm1.k169 hm1.l169, cka_i hm1.k170 hm1.l170, cka_i hm1.k171 hm1.l171, cka_i hm1.k172 hm1.l172, cka_i hm1.k173 hm1.l173, cka_i hm1.k174 hm1.l174, cka_i hm1.k175 hm1.l175, cka_i hm1.k176 hm1.l176, cka_i hm1.k177 hm1.l177, cka_i hm1.k178 hm1.l178, cka_i hm1.k179 hm1.l179, cka_i hm1.k180 hm1.l180, cka_i hm1.k181 hm1.l181, cka_i hm1.k182 hm1.l182, cka_i hm1.k183 hm1.l183, cka_i hm1.k184 hm1.l184, cka_i hm1.k185 hm1.l185, cka_i hm1.k186 hm1.l186, cka_i hm1.k187 hm1.l187, cka_i hm1.k188 hm1.l188, cka_i hm1.k189 hm1.l189, cka_i hm1.k190 hm1.l190, e3])
    exact hK σ1 q1 F1
theorem M_ll105 {S : St} {ch : Nat → Int} {σ : vMem} {B : Int} {c : Nat → Int} {x1 : Int32} {t : Nat} {K : vMem → Option vMem} {Q : vMem → Prop} (h : LstAt S ch σ c) (hc : gC c) (hch : gCh ch) (g : gSt B S) (hB : B ≤ 900000) (ht : t ≤ 30) (hK : ∀ σ1, LstAt S ch σ1 (comC S ch t c t) → Fr (KM [0]) 0 0 σ σ1 → ok (K σ1) Q) : ok (f_X3_laysLeast_105 161 x1 (i32 t) K FU σ (i32 ((0 : Nat) : Int))) Q := by
  refine loop2 (F := f_X3_laysLeast_105 161 x1 (i32 t) K) t (fun k σ1 v => v = i32 k ∧ LstAt S ch σ1 (comC S ch t c k) ∧ Fr (KM [0]) 0 0 σ σ1) ?_ FU 0 σ _ (by omega) ⟨rfl, h, Fr.rf⟩ (by unfold FU; omega)
  rintro n k σ1 v hk ⟨rfl, q1, F1⟩ IH
  have hm1 := q1.1.ml
  rw [f_X3_laysLeast_105.eq_2]
  by_cases d : k < t
  · have ed : comC S ch t c (k + 1) = if comesB S k t then goesF (comC S ch t c k) (turnS S (ch k)) (decide (ch k = 2)) else comC S ch t c k := rfl
    (try simp (disch := omega) only [vl_s, bp_s, bd_s, bv_s, i32_nl, i32_n, i32_add, i32_sub, i32_mul, i32_neg, i32_ca, i32_cm, i32_cs, i32_cn, i32_le, i32_lt, i32_eq, i32_cl, Int.toNat_natCast, if_pos, if_neg, ite_true, ite_false, not_true_eq_false, not_false_eq_true, Nat.add_zero, Nat.zero_add, Nat.add_sub_cancel, ck_p, cko_si, cka_si, cko_sl, cka_sl, gi_e, gi_x, gl_e, gl_x, gr_si, gl_si, gi_sl, gr_sl, cko_c hm1.k (show 3 ∈ [3] by decide), dr_c hm1.r2, dr_c hm1.r9, dr_c hm1.r10, dr_c hm1.r11, dr_c hm1.r12, dr_c hm1.r13, dr_c hm1.r14, dr_c hm1.r15, dr_c hm1.r16, dr_c hm1.r21, dr_c hm1.r23, dr_c hm1.r24, dr_c hm1.r27, dr_c hm1.r28, dr_c hm1.r30, dr_c hm1.r33, dr_c hm1.r34, dr_c hm1.r36, dr_c hm1.r37, dr_c hm1.r38, dr_c hm1.r41, dr_c hm1.r43, dr_c hm1.r44, dr_c hm1.r45, dr_c hm1.r46, dr_c hm1.r47, dr_c hm1.r50, dr_c hm1.r51, dr_c hm1.r52, cka_i hm1.k162 hm1.l162, cka_i hm1.k163 hm1.l163, cka_i hm1.k164 hm1.l164, cka_i hm1.k165 hm1.l165, cka_i hm1.k166 hm1.l166, cka_i hm1.k167 hm1.l167, cka_i hm1.k168 hm1.l168, cka_i hm1.k169 hm1.l169, cka_i hm1.k170 hm1.l170, cka_i hm1.k171 hm1.l171, cka_i hm1.k172 hm1.l172, cka_i hm1.k173 hm1.l173, cka_i hm1.k174 hm1.l174, cka_i hm1.k175 hm1.l175, cka_i hm1.k176 hm1.l176, cka_i hm1.k177 hm1.l177, cka_i hm1.k178 hm1.l178, cka_i hm1.k179 hm1.l179, cka_i hm1.k180 hm1.l180, cka_i hm1.k181 hm1.l181, cka_i hm1.k182 hm1.l182, cka_i hm1.k183 hm1.l183, cka_i hm1.k184 hm1.l184, cka_i hm1.k185 hm1.l185, cka_i hm1.k186 hm1.l186, cka_i hm1.k187 hm1.l187, cka_i hm1.k188 hm1.l188, cka_i hm1.k189 hm1.l189, cka_i hm1.k190 hm1.l190])
    refine ok_bd (M_comesAt q1.1 g hB (by omega) (by omega)) ?_
    rintro y σ2 ⟨rfl, q2, F2⟩
    have hm2 := q2.ml
    have hn1 := q1.1.mn
    have q2' : LstAt S ch σ2 (comC S ch t c k) := ⟨q2, fun l hl => by rw [F2.i (by omega) ⟨by decide, by decide⟩]; exact q1.2.1 l hl, fun l hl => by rw [F2.i (by omega) ⟨by decide, by decide⟩]; exact q1.2.2 l hl⟩
    have e179 := q2'.2.2 k (by omega)
    have gk := hch k (by omega)
    have tb : -2 ≤ turnS S (ch k) ∧ turnS S (ch k) ≤ 2 := by unfold turnS; split <;> omega
    have et := M_turned2 (v := ch k) q2 g.shp (by omega) (by omega)
    cases hcb : comesB S k t with
    | false =>
      rw [hcb] at ed
      rw [bI_f]
      (try simp (disch := omega) only [vl_s, bp_s, bd_s, bv_s, i32_nl, i32_n, i32_add, i32_sub, i32_mul, i32_neg, i32_ca, i32_cm, i32_cs, i32_cn, i32_le, i32_lt, i32_eq, i32_cl, Int.toNat_natCast, if_pos, if_neg, ite_true, ite_false, not_true_eq_false, not_false_eq_true, Nat.add_zero, Nat.zero_add, Nat.add_sub_cancel, ck_p, cko_si, cka_si, cko_sl, cka_sl, gi_e, gi_x, gl_e, gl_x, gr_si, gl_si, gi_sl, gr_sl, cko_c hm2.k (show 3 ∈ [3] by decide), dr_c hm2.r2, dr_c hm2.r9, dr_c hm2.r10, dr_c hm2.r11, dr_c hm2.r12, dr_c hm2.r13, dr_c hm2.r14, dr_c hm2.r15, dr_c hm2.r16, dr_c hm2.r21, dr_c hm2.r23, dr_c hm2.r24, dr_c hm2.r27, dr_c hm2.r28, dr_c hm2.r30, dr_c hm2.r33, dr_c hm2.r34, dr_c hm2.r36, dr_c hm2.r37, dr_c hm2.r38, dr_c hm2.r41, dr_c hm2.r43, dr_c hm2.r44, dr_c hm2.r45, dr_c hm2.r46, dr_c hm2.r47, dr_c hm2.r50, dr_c hm2.r51, dr_c hm2.r52, cka_i hm2.k162 hm2.l162, cka_i hm2.k163 hm2.l163, cka_i hm2.k164 hm2.l164, cka_i hm2.k165 hm2.l165, cka_i hm2.k166 hm2.l166, cka_i hm2.k167 hm2.l167, cka_i hm2.k168 hm2.l168, cka_i hm2.k169 hm2.l169, cka_i hm2.k170 hm2.l170, cka_i hm2.k171 hm2.l171, cka_i hm2.k172 hm2.l172, cka_i hm2.k173 hm2.l173, cka_i hm2.k174 hm2.l174, cka_i hm2.k175 hm2.l175, cka_i hm2.k176 hm2.l176, cka_i hm2.k177 hm2.l177, cka_i hm2.k178 hm2.l178, cka_i hm2.k179 hm2.l179, cka_i hm2.k180 hm2.l180, cka_i hm2.k181 hm2.l181, cka_i hm2.k182 hm2.l182, cka_i hm2.k183 hm2.l183, cka_i hm2.k184 hm2.l184, cka_i hm2.k185 hm2.l185, cka_i hm2.k186 hm2.l186, cka_i hm2.k187 hm2.l187, cka_i hm2.k188 hm2.l188, cka_i hm2.k189 hm2.l189, cka_i hm2.k190 hm2.l190])
      exact IH d _ _ ⟨rfl, by rw [ed]; exact q2', F1.tr0 (FM_174 F2)⟩
    | true =>
      rw [hcb] at ed
      rw [bI_t]
      have gb := X3_goesBy (v := turnS S (ch k)) (any := decide (ch k = 2)) hm2 q2.mn (comC_g (S := S) (ch := ch) (t := t) hc k) q2'.2.1 tb.1 tb.2 (fun e => turnS_b S gk.1 (by have := of_decide_eq_false e; omega))
      by_cases c2 : ch k = 2
      · rw [decide_eq_true c2, bI_t] at gb
        rw [decide_eq_true c2] at ed
        (try simp (disch := omega) only [vl_s, bp_s, bd_s, bv_s, i32_nl, i32_n, i32_add, i32_sub, i32_mul, i32_neg, i32_ca, i32_cm, i32_cs, i32_cn, i32_le, i32_lt, i32_eq, i32_cl, Int.toNat_natCast, if_pos, if_neg, ite_true, ite_false, not_true_eq_false, not_false_eq_true, Nat.add_zero, Nat.zero_add, Nat.add_sub_cancel, ck_p, cko_si, cka_si, cko_sl, cka_sl, gi_e, gi_x, gl_e, gl_x, gr_si, gl_si, gi_sl, gr_sl, cko_c hm2.k (show 3 ∈ [3] by decide), dr_c hm2.r2, dr_c hm2.r9, dr_c hm2.r10, dr_c hm2.r11, dr_c hm2.r12, dr_c hm2.r13, dr_c hm2.r14, dr_c hm2.r15, dr_c hm2.r16, dr_c hm2.r21, dr_c hm2.r23, dr_c hm2.r24, dr_c hm2.r27, dr_c hm2.r28, dr_c hm2.r30, dr_c hm2.r33, dr_c hm2.r34, dr_c hm2.r36, dr_c hm2.r37, dr_c hm2.r38, dr_c hm2.r41, dr_c hm2.r43, dr_c hm2.r44, dr_c hm2.r45, dr_c hm2.r46, dr_c hm2.r47, dr_c hm2.r50, dr_c hm2.r51, dr_c hm2.r52, cka_i hm2.k162 hm2.l162, cka_i hm2.k163 hm2.l163, cka_i hm2.k164 hm2.l164, cka_i hm2.k165 hm2.l165, cka_i hm2.k166 hm2.l166, cka_i hm2.k167 hm2.l167, cka_i hm2.k168 hm2.l168, cka_i hm2.k169 hm2.l169, cka_i hm2.k170 hm2.l170, cka_i hm2.k171 hm2.l171, cka_i hm2.k172 hm2.l172, cka_i hm2.k173 hm2.l173, cka_i hm2.k174 hm2.l174, cka_i hm2.k175 hm2.l175, cka_i hm2.k176 hm2.l176, cka_i hm2.k177 hm2.l177, cka_i hm2.k178 hm2.l178, cka_i hm2.k179 hm2.l179, cka_i hm2.k180 hm2.l180, cka_i hm2.k181 hm2.l181, cka_i hm2.k182 hm2.l182, cka_i hm2.k183 hm2.l183, cka_i hm2.k184 hm2.l184, cka_i hm2.k185 hm2.l185, cka_i hm2.k186 hm2.l186, cka_i hm2.k187 hm2.l187, cka_i hm2.k188 hm2.l188, cka_i hm2.k189 hm2.l189, cka_i hm2.k190 hm2.l190, e179, et])
        refine ok_bv gb ?_
        rintro σ3 ⟨hm3, F3, a3⟩
        exact IH d _ _ ⟨rfl, by rw [ed]; exact q2'.go F3 a3, (F1.tr0 (FM_174 F2)).tr0 (F3.mono K180_M)⟩
      · rw [decide_eq_false c2, bI_f] at gb
        rw [decide_eq_false c2] at ed
        (try simp (disch := omega) only [vl_s, bp_s, bd_s, bv_s, i32_nl, i32_n, i32_add, i32_sub, i32_mul, i32_neg, i32_ca, i32_cm, i32_cs, i32_cn, i32_le, i32_lt, i32_eq, i32_cl, Int.toNat_natCast, if_pos, if_neg, ite_true, ite_false, not_true_eq_false, not_false_eq_true, Nat.add_zero, Nat.zero_add, Nat.add_sub_cancel, ck_p, cko_si, cka_si, cko_sl, cka_sl, gi_e, gi_x, gl_e, gl_x, gr_si, gl_si, gi_sl, gr_sl, cko_c hm2.k (show 3 ∈ [3] by decide), dr_c hm2.r2, dr_c hm2.r9, dr_c hm2.r10, dr_c hm2.r11, dr_c hm2.r12, dr_c hm2.r13, dr_c hm2.r14, dr_c hm2.r15, dr_c hm2.r16, dr_c hm2.r21, dr_c hm2.r23, dr_c hm2.r24, dr_c hm2.r27, dr_c hm2.r28, dr_c hm2.r30, dr_c hm2.r33, dr_c hm2.r34, dr_c hm2.r36, dr_c hm2.r37, dr_c hm2.r38, dr_c hm2.r41, dr_c hm2.r43, dr_c hm2.r44, dr_c hm2.r45, dr_c hm2.r46, dr_c hm2.r47, dr_c hm2.r50, dr_c hm2.r51, dr_c hm2.r52, cka_i hm2.k162 hm2.l162, cka_i hm2.k163 hm2.l163, cka_i hm2.k164 hm2.l164, cka_i hm2.k165 hm2.l165, cka_i hm2.k166 hm2.l166, cka_i hm2.k167 hm2.l167, cka_i hm2.k168 hm2.l168, cka_i hm2.k169 hm2.l169, cka_i hm2.k170 hm2.l170, cka_i hm2.k171 hm2.l171, cka_i hm2.k172 hm2.l172, cka_i hm2.k173 hm2.l173, cka_i hm2.k174 hm2.l174, cka_i hm2.k175 hm2.l175, cka_i hm2.k176 hm2.l176, cka_i hm2.k177 hm2.l177, cka_i hm2.k178 hm2.l178, cka_i hm2.k179 hm2.l179, cka_i hm2.k180 hm2.l180, cka_i hm2.k181 hm2.l181, cka_i hm2.k182 hm2.l182, cka_i hm2.k183 hm2.l183, cka_i hm2.k184 hm2.l184, cka_i hm2.k185 hm2.l185, cka_i hm2.k186 hm2.l186, cka_i hm2.k187 hm2.l187, cka_i hm2.k188 hm2.l188, cka_i hm2.k189 hm2.l189, cka_i hm2.k190 hm2.l190, e179, et])
        refine ok_bv gb ?_
        rintro σ3 ⟨hm3, F3, a3⟩
        exact IH d _ _ ⟨rfl, by rw [ed]; exact q2'.go F3 a3, (F1.tr0 (FM_174 F2)).tr0 (F3.mono K180_M)⟩
  · have : k = t := by omega
    subst this
    (try simp (disch := omega) only [vl_s, bp_s, bd_s, bv_s, i32_nl, i32_n, i32_add, i32_sub, i32_mul, i32_neg, i32_ca, i32_cm, i32_cs, i32_cn, i32_le, i32_lt, i32_eq, i32_cl, Int.toNat_natCast, if_pos, if_neg, ite_true, ite_false, not_true_eq_false, not_false_eq_true, Nat.add_zero, Nat.zero_add, Nat.add_sub_cancel, ck_p, cko_si, cka_si, cko_sl, cka_sl, gi_e, gi_x, gl_e, gl_x, gr_si, gl_si, gi_sl, gr_sl])
    exact hK σ1 q1 F1
