/-! THE MODEL'S ACTS: rocks that can be cleared, whole -/
set_option maxRecDepth 100000
def farF (S : St) : Nat → Int
  | 0 => 0
  | r + 1 => if S.now.now < S.rck.2.1 r then max (farF S r) (S.rck.2.1 r - S.now.now) else farF S r
def ahB (S : St) (r : Nat) : Bool := decide (S.now.now < S.rck.2.1 r)
def dueP (S : St) (t : Nat) (p : Nat → Bool) : Nat → (Nat → Bool)
  | 0 => p
  | k + 1 => match S.now.ways[k]? with
    | some q => if q.1 = S.now.now + t then movP (dueP S t p k) q.2.1 else dueP S t p k
    | none => dueP S t p k
def comP (S : St) (t lo : Nat) (p : Nat → Bool) : Nat → (Nat → Bool)
  | 0 => p
  | i + 1 => if comesB S (lo + i) t then (fun l => comP S t lo p i l || (movP (comP S t lo p i) (-1) l || movP (comP S t lo p i) 1 l)) else comP S t lo p i
def lnsP (S : St) : Nat → (Nat → Bool)
  | 0 => fun l => decide ((l : Int) = S.now.lane)
  | t + 1 => comP S (t + 1) (t + 1 - 12) (dueP S (t + 1) (lnsP S t) S.now.ways.length) (t + 1 - (t + 1 - 12))
theorem M_moveDue {S : St} {σ : vMem} {B : Int} {t : Nat} {p : Nat → Bool} (h : RM S σ) (g : gSt B S) (hB : B ≤ 900000) (ht : t ≤ 1000) : f_X3_movedByDue σ 161 (bitsI p 9) (i32 t) = some (bitsI (dueP S t p S.now.ways.length) 9) := by
  have hm := h.ml
  have e0 := h.now.1
  have e3 := h.now.2.2.2.1
  obtain ⟨⟨n1, n2, n3, n4, n5, n6, n7⟩, n8, n9⟩ := g.now
  unfold f_X3_movedByDue
  refine ok_eq ?_
  refine loop2 (F := f_X3_movedByDue_5 σ 161 (i32 t)) S.now.ways.length (fun k a x => x = i32 k ∧ a = bitsI (dueP S t p k) 9) ?_ FU 0 _ _ (by omega) ⟨rfl, rfl⟩ (by unfold FU; omega)
  rintro n k a x hk ⟨rfl, rfl⟩ IH
  rw [f_X3_movedByDue_5.eq_2]
  by_cases d : k < S.now.ways.length
  · obtain ⟨q, hq⟩ : ∃ q, S.now.ways[k]? = some q := ⟨S.now.ways[k], List.getElem?_eq_getElem d⟩
    have eq := h.now.2.2.2.2.2.1 k q hq
    have gq := n8 q (List.mem_of_getElem? hq)
    have ed : dueP S t p (k + 1) = if q.1 = S.now.now + t then movP (dueP S t p k) q.2.1 else dueP S t p k := by
      conv => lhs; unfold dueP
      rw [hq]
    have em := X3_moved (σ := σ) (p := dueP S t p k) gq.2.2.1 gq.2.2.2.1
    by_cases e : q.1 = S.now.now + t
    · rw [if_pos e] at ed
      simp (disch := omega) only [vl_s, bp_s, bd_s, bv_s, i32_nl, i32_n, i32_add, i32_sub, i32_mul, i32_neg, i32_ca, i32_cm, i32_cs, i32_cn, i32_le, i32_lt, i32_eq, i32_cl, Int.toNat_natCast, if_pos, if_neg, ite_true, ite_false, not_true_eq_false, not_false_eq_true, Nat.add_zero, Nat.zero_add, Nat.add_sub_cancel, ck_p, cko_c hm.k (show 3 ∈ [3] by decide), dr_c hm.r2, dr_c hm.r9, dr_c hm.r10, dr_c hm.r11, dr_c hm.r12, dr_c hm.r13, dr_c hm.r14, dr_c hm.r15, dr_c hm.r16, dr_c hm.r21, dr_c hm.r23, dr_c hm.r24, dr_c hm.r27, dr_c hm.r28, dr_c hm.r30, dr_c hm.r33, dr_c hm.r34, dr_c hm.r36, dr_c hm.r37, dr_c hm.r38, dr_c hm.r41, dr_c hm.r43, dr_c hm.r44, dr_c hm.r45, dr_c hm.r46, dr_c hm.r47, dr_c hm.r50, dr_c hm.r51, dr_c hm.r52, cka_i hm.k162 hm.l162, cka_i hm.k163 hm.l163, cka_i hm.k164 hm.l164, cka_i hm.k165 hm.l165, cka_i hm.k166 hm.l166, cka_i hm.k167 hm.l167, cka_i hm.k168 hm.l168, cka_i hm.k169 hm.l169, cka_i hm.k170 hm.l170, cka_i hm.k171 hm.l171, cka_i hm.k172 hm.l172, cka_i hm.k173 hm.l173, cka_i hm.k174 hm.l174, cka_i hm.k175 hm.l175, cka_i hm.k176 hm.l176, cka_i hm.k177 hm.l177, cka_i hm.k178 hm.l178, cka_i hm.k179 hm.l179, cka_i hm.k180 hm.l180, cka_i hm.k181 hm.l181, cka_i hm.k182 hm.l182, cka_i hm.k183 hm.l183, cka_i hm.k184 hm.l184, cka_i hm.k185 hm.l185, cka_i hm.k186 hm.l186, cka_i hm.k187 hm.l187, cka_i hm.k188 hm.l188, cka_i hm.k189 hm.l189, cka_i hm.k190 hm.l190, e0, e3, eq.1, eq.2.1, em]
      exact IH d _ _ ⟨rfl, by rw [ed]⟩
    · rw [if_neg e] at ed
      simp (disch := omega) only [vl_s, bp_s, bd_s, bv_s, i32_nl, i32_n, i32_add, i32_sub, i32_mul, i32_neg, i32_ca, i32_cm, i32_cs, i32_cn, i32_le, i32_lt, i32_eq, i32_cl, Int.toNat_natCast, if_pos, if_neg, ite_true, ite_false, not_true_eq_false, not_false_eq_true, Nat.add_zero, Nat.zero_add, Nat.add_sub_cancel, ck_p, cko_c hm.k (show 3 ∈ [3] by decide), dr_c hm.r2, dr_c hm.r9, dr_c hm.r10, dr_c hm.r11, dr_c hm.r12, dr_c hm.r13, dr_c hm.r14, dr_c hm.r15, dr_c hm.r16, dr_c hm.r21, dr_c hm.r23, dr_c hm.r24, dr_c hm.r27, dr_c hm.r28, dr_c hm.r30, dr_c hm.r33, dr_c hm.r34, dr_c hm.r36, dr_c hm.r37, dr_c hm.r38, dr_c hm.r41, dr_c hm.r43, dr_c hm.r44, dr_c hm.r45, dr_c hm.r46, dr_c hm.r47, dr_c hm.r50, dr_c hm.r51, dr_c hm.r52, cka_i hm.k162 hm.l162, cka_i hm.k163 hm.l163, cka_i hm.k164 hm.l164, cka_i hm.k165 hm.l165, cka_i hm.k166 hm.l166, cka_i hm.k167 hm.l167, cka_i hm.k168 hm.l168, cka_i hm.k169 hm.l169, cka_i hm.k170 hm.l170, cka_i hm.k171 hm.l171, cka_i hm.k172 hm.l172, cka_i hm.k173 hm.l173, cka_i hm.k174 hm.l174, cka_i hm.k175 hm.l175, cka_i hm.k176 hm.l176, cka_i hm.k177 hm.l177, cka_i hm.k178 hm.l178, cka_i hm.k179 hm.l179, cka_i hm.k180 hm.l180, cka_i hm.k181 hm.l181, cka_i hm.k182 hm.l182, cka_i hm.k183 hm.l183, cka_i hm.k184 hm.l184, cka_i hm.k185 hm.l185, cka_i hm.k186 hm.l186, cka_i hm.k187 hm.l187, cka_i hm.k188 hm.l188, cka_i hm.k189 hm.l189, cka_i hm.k190 hm.l190, e0, e3, eq.1, eq.2.1]
      exact IH d _ _ ⟨rfl, by rw [ed]⟩
  · have : k = S.now.ways.length := by omega
    subst this
    simp (disch := omega) only [vl_s, bp_s, bd_s, bv_s, i32_nl, i32_n, i32_add, i32_sub, i32_mul, i32_neg, i32_ca, i32_cm, i32_cs, i32_cn, i32_le, i32_lt, i32_eq, i32_cl, Int.toNat_natCast, if_pos, if_neg, ite_true, ite_false, not_true_eq_false, not_false_eq_true, Nat.add_zero, Nat.zero_add, Nat.add_sub_cancel, ck_p, cko_c hm.k (show 3 ∈ [3] by decide), dr_c hm.r2, dr_c hm.r9, dr_c hm.r10, dr_c hm.r11, dr_c hm.r12, dr_c hm.r13, dr_c hm.r14, dr_c hm.r15, dr_c hm.r16, dr_c hm.r21, dr_c hm.r23, dr_c hm.r24, dr_c hm.r27, dr_c hm.r28, dr_c hm.r30, dr_c hm.r33, dr_c hm.r34, dr_c hm.r36, dr_c hm.r37, dr_c hm.r38, dr_c hm.r41, dr_c hm.r43, dr_c hm.r44, dr_c hm.r45, dr_c hm.r46, dr_c hm.r47, dr_c hm.r50, dr_c hm.r51, dr_c hm.r52, cka_i hm.k162 hm.l162, cka_i hm.k163 hm.l163, cka_i hm.k164 hm.l164, cka_i hm.k165 hm.l165, cka_i hm.k166 hm.l166, cka_i hm.k167 hm.l167, cka_i hm.k168 hm.l168, cka_i hm.k169 hm.l169, cka_i hm.k170 hm.l170, cka_i hm.k171 hm.l171, cka_i hm.k172 hm.l172, cka_i hm.k173 hm.l173, cka_i hm.k174 hm.l174, cka_i hm.k175 hm.l175, cka_i hm.k176 hm.l176, cka_i hm.k177 hm.l177, cka_i hm.k178 hm.l178, cka_i hm.k179 hm.l179, cka_i hm.k180 hm.l180, cka_i hm.k181 hm.l181, cka_i hm.k182 hm.l182, cka_i hm.k183 hm.l183, cka_i hm.k184 hm.l184, cka_i hm.k185 hm.l185, cka_i hm.k186 hm.l186, cka_i hm.k187 hm.l187, cka_i hm.k188 hm.l188, cka_i hm.k189 hm.l189, cka_i hm.k190 hm.l190, e3]
    exact ok_some rfl
theorem M_cl131 {S : St} {σ : vMem} {B : Int} {v1 v2 v3 : Int32} {t : Nat} {p : Nat → Bool} {K : vMem → Int32 → Option (Int32 × vMem)} {Q : Int32 × vMem → Prop} (h : RM S σ) (g : gSt B S) (hB : B ≤ 900000) (ht : t ≤ 1000) (hK : ∀ σ1, RM S σ1 → Fr (KM [0]) 0 0 σ σ1 → ok (K σ1 (bitsI (comP S t (t - 12) p (t - (t - 12))) 9)) Q) : ok (f_X3_clears_131 161 v1 v2 v3 (i32 t) K FU σ (bitsI p 9) (i32 (t - 12 : Nat))) Q := by
  refine loop3 (F := f_X3_clears_131 161 v1 v2 v3 (i32 t) K) (t - (t - 12)) (fun i σ1 a x => x = i32 (t - 12 + i : Nat) ∧ a = bitsI (comP S t (t - 12) p i) 9 ∧ RM S σ1 ∧ Fr (KM [0]) 0 0 σ σ1) ?_ FU 0 σ _ _ (by omega) ⟨rfl, rfl, h, Fr.rf⟩ (by unfold FU; omega)
  rintro n i σ1 a x hi ⟨rfl, rfl, q1, F1⟩ IH
  have hm1 := q1.ml
  rw [f_X3_clears_131.eq_2]
  by_cases d : i < t - (t - 12)
  · (try simp (disch := omega) only [vl_s, bp_s, bd_s, bv_s, i32_nl, i32_n, i32_add, i32_sub, i32_mul, i32_neg, i32_ca, i32_cm, i32_cs, i32_cn, i32_le, i32_lt, i32_eq, i32_cl, Int.toNat_natCast, if_pos, if_neg, ite_true, ite_false, not_true_eq_false, not_false_eq_true, Nat.add_zero, Nat.zero_add, Nat.add_sub_cancel, ck_p, cko_si, cka_si, cko_sl, cka_sl, gi_e, gi_x, gl_e, gl_x, gr_si, gl_si, gi_sl, gr_sl, cko_c hm1.k (show 3 ∈ [3] by decide), dr_c hm1.r2, dr_c hm1.r9, dr_c hm1.r10, dr_c hm1.r11, dr_c hm1.r12, dr_c hm1.r13, dr_c hm1.r14, dr_c hm1.r15, dr_c hm1.r16, dr_c hm1.r21, dr_c hm1.r23, dr_c hm1.r24, dr_c hm1.r27, dr_c hm1.r28, dr_c hm1.r30, dr_c hm1.r33, dr_c hm1.r34, dr_c hm1.r36, dr_c hm1.r37, dr_c hm1.r38, dr_c hm1.r41, dr_c hm1.r43, dr_c hm1.r44, dr_c hm1.r45, dr_c hm1.r46, dr_c hm1.r47, dr_c hm1.r50, dr_c hm1.r51, dr_c hm1.r52, cka_i hm1.k162 hm1.l162, cka_i hm1.k163 hm1.l163, cka_i hm1.k164 hm1.l164, cka_i hm1.k165 hm1.l165, cka_i hm1.k166 hm1.l166, cka_i hm1.k167 hm1.l167, cka_i hm1.k168 hm1.l168, cka_i hm1.k169 hm1.l169, cka_i hm1.k170 hm1.l170, cka_i hm1.k171 hm1.l171, cka_i hm1.k172 hm1.l172, cka_i hm1.k173 hm1.l173, cka_i hm1.k174 hm1.l174, cka_i hm1.k175 hm1.l175, cka_i hm1.k176 hm1.l176, cka_i hm1.k177 hm1.l177, cka_i hm1.k178 hm1.l178, cka_i hm1.k179 hm1.l179, cka_i hm1.k180 hm1.l180, cka_i hm1.k181 hm1.l181, cka_i hm1.k182 hm1.l182, cka_i hm1.k183 hm1.l183, cka_i hm1.k184 hm1.l184, cka_i hm1.k185 hm1.l185, cka_i hm1.k186 hm1.l186, cka_i hm1.k187 hm1.l187, cka_i hm1.k188 hm1.l188, cka_i hm1.k189 hm1.l189, cka_i hm1.k190 hm1.l190])
    refine ok_bd (M_comesAt q1 g hB (by omega) ht) ?_
    rintro y σ2 ⟨rfl, q2, F2⟩
    have ed : comP S t (t - 12) p (i + 1) = if comesB S (t - 12 + i) t then (fun l => comP S t (t - 12) p i l || (movP (comP S t (t - 12) p i) (-1) l || movP (comP S t (t - 12) p i) 1 l)) else comP S t (t - 12) p i := rfl
    have m1 := X3_moved (σ := σ2) (p := comP S t (t - 12) p i) (w := -1) (by decide) (by decide)
    have m2 := X3_moved (σ := σ2) (p := comP S t (t - 12) p i) (w := 1) (by decide) (by decide)
    have m1 : f_X3_moved σ2 (bitsI (comP S t (t - 12) p i) 9) (i32 (-((1 : Nat) : Int))) = some (bitsI (movP (comP S t (t - 12) p i) (-1)) 9) := m1
    have m2 : f_X3_moved σ2 (bitsI (comP S t (t - 12) p i) 9) (i32 ((1 : Nat) : Int)) = some (bitsI (movP (comP S t (t - 12) p i) 1) 9) := m2
    have z : bitsI (fun _ => false) 9 = i32 ((0 : Nat) : Int) := by decide
    cases hc : comesB S (t - 12 + i) t with
    | true =>
      rw [hc, if_pos rfl] at ed
      rw [bI_t]
      (try simp (disch := omega) only [vl_s, bp_s, bd_s, bv_s, i32_nl, i32_n, i32_add, i32_sub, i32_mul, i32_neg, i32_ca, i32_cm, i32_cs, i32_cn, i32_le, i32_lt, i32_eq, i32_cl, Int.toNat_natCast, if_pos, if_neg, ite_true, ite_false, not_true_eq_false, not_false_eq_true, Nat.add_zero, Nat.zero_add, Nat.add_sub_cancel, ck_p, cko_si, cka_si, cko_sl, cka_sl, gi_e, gi_x, gl_e, gl_x, gr_si, gl_si, gi_sl, gr_sl, m1, m2])
      rw [bitsI_or _ _ (by decide), bitsI_or _ _ (by decide)]
      exact IH d _ _ _ ⟨rfl, by rw [ed], q2, F1.tr0 (FM_174 F2)⟩
    | false =>
      rw [hc, if_neg (by decide)] at ed
      rw [bI_f]
      (try simp (disch := omega) only [vl_s, bp_s, bd_s, bv_s, i32_nl, i32_n, i32_add, i32_sub, i32_mul, i32_neg, i32_ca, i32_cm, i32_cs, i32_cn, i32_le, i32_lt, i32_eq, i32_cl, Int.toNat_natCast, if_pos, if_neg, ite_true, ite_false, not_true_eq_false, not_false_eq_true, Nat.add_zero, Nat.zero_add, Nat.add_sub_cancel, ck_p, cko_si, cka_si, cko_sl, cka_sl, gi_e, gi_x, gl_e, gl_x, gr_si, gl_si, gi_sl, gr_sl])
      rw [← z, bitsI_or _ _ (by decide)]
      refine IH d _ _ _ ⟨rfl, ?_, q2, F1.tr0 (FM_174 F2)⟩
      rw [ed]
      exact bitsI_eq (fun l _ => Bool.or_false _)
  · have : i = t - (t - 12) := by omega
    subst this
    (try simp (disch := omega) only [vl_s, bp_s, bd_s, bv_s, i32_nl, i32_n, i32_add, i32_sub, i32_mul, i32_neg, i32_ca, i32_cm, i32_cs, i32_cn, i32_le, i32_lt, i32_eq, i32_cl, Int.toNat_natCast, if_pos, if_neg, ite_true, ite_false, not_true_eq_false, not_false_eq_true, Nat.add_zero, Nat.zero_add, Nat.add_sub_cancel, ck_p, cko_si, cka_si, cko_sl, cka_sl, gi_e, gi_x, gl_e, gl_x, gr_si, gl_si, gi_sl, gr_sl])
    exact hK σ1 q1 F1
