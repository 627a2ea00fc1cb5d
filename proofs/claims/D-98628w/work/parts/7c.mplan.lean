/-! THE MODEL'S ACTS: lanes, the latest first order, plans -/
set_option maxRecDepth 100000
theorem M_ll156 {S : St} {ch : Nat → Int} {σ : vMem} {B : Int} {c : Nat → Int} {x1 : Int32} {t : Nat} {K : vMem → Option vMem} {Q : vMem → Prop} (h : LstAt S ch σ c) (hc : gC c) (g : gSt B S) (hB : B ≤ 900000) (ht : t ≤ 30) (hK : ∀ σ1, LstAt S ch σ1 (hitC S t c) → Fr (KM [0]) 0 0 σ σ1 → ok (K σ1) Q) : ok (f_X3_laysLeast_156 161 x1 (i32 t) K FU σ (i32 ((0 : Nat) : Int))) Q := by
  have gw := g.now
  obtain ⟨⟨n1, n2, n3, n4, n5, n6, n7⟩, n8, n9⟩ := gw
  have hn := h.1.mn
  refine loop2 (F := f_X3_laysLeast_156 161 x1 (i32 t) K) 9 (fun l σ1 v => v = i32 l ∧ RM S σ1 ∧ Fr K180 0 0 σ σ1 ∧ (∀ m, m < l → gi σ1 180 m = i32 (hitC S t c m)) ∧ ∀ m, l ≤ m → m < 9 → gi σ1 180 m = i32 (c m)) ?_ FU 0 σ _ (by omega) ⟨rfl, h.1, Fr.rf, fun m hm => by omega, fun m _ hm => h.2.1 m hm⟩ (by unfold FU; omega)
  rintro n l σ1 v hl ⟨rfl, q1, F1, a1, a2⟩ IH
  have hm1 := q1.ml
  have e0 := q1.now.1
  rw [f_X3_laysLeast_156.eq_2]
  by_cases d : l < 9
  · have eh := X3_hits (m := S.now.now + t) (l := l) hm1 q1.rck g.rck (by omega) (by omega) (by omega) (by omega)
    have hb := hitN_b g.rck (S.now.now + t) l
    have ec := a2 l (Nat.le_refl _) d
    have fin : ∀ z, z = hitC S t c l → ok (f_X3_laysLeast_156 161 x1 (i32 t) K n (si σ1 180 l (i32 z)) (i32 (l + 1 : Nat))) Q := by
      rintro z rfl
      refine IH d _ _ ⟨rfl, q1.u0 (Fr.rf.wm 0 rfl (by decide)), F1.wi (fun q => q.1 rfl), fun m hm => ?_, fun m h1 h2 => ?_⟩
      · by_cases e : m = l
        · subst e; rw [gi_e ⟨rfl, rfl⟩]
        · rw [gi_x (by omega)]; exact a1 m (by omega)
      · rw [gi_x (by omega)]; exact a2 m (by omega) h2
    unfold hitC at fin
    clear IH
    by_cases e : 0 < hitN S.rck (S.now.now + t) l
    · rw [if_pos e] at fin
      (try simp (disch := omega) only [vl_s, bp_s, bd_s, bv_s, i32_nl, i32_n, i32_add, i32_sub, i32_mul, i32_neg, i32_ca, i32_cm, i32_cs, i32_cn, i32_le, i32_lt, i32_eq, i32_cl, Int.toNat_natCast, if_pos, if_neg, ite_true, ite_false, not_true_eq_false, not_false_eq_true, Nat.add_zero, Nat.zero_add, Nat.add_sub_cancel, ck_p, cko_si, cka_si, cko_sl, cka_sl, gi_e, gi_x, gl_e, gl_x, gr_si, gl_si, gi_sl, gr_sl, cko_c hm1.k (show 3 ∈ [3] by decide), dr_c hm1.r2, dr_c hm1.r9, dr_c hm1.r10, dr_c hm1.r11, dr_c hm1.r12, dr_c hm1.r13, dr_c hm1.r14, dr_c hm1.r15, dr_c hm1.r16, dr_c hm1.r21, dr_c hm1.r23, dr_c hm1.r24, dr_c hm1.r27, dr_c hm1.r28, dr_c hm1.r30, dr_c hm1.r33, dr_c hm1.r34, dr_c hm1.r36, dr_c hm1.r37, dr_c hm1.r38, dr_c hm1.r41, dr_c hm1.r43, dr_c hm1.r44, dr_c hm1.r45, dr_c hm1.r46, dr_c hm1.r47, dr_c hm1.r50, dr_c hm1.r51, dr_c hm1.r52, cka_i hm1.k162 hm1.l162, cka_i hm1.k163 hm1.l163, cka_i hm1.k164 hm1.l164, cka_i hm1.k165 hm1.l165, cka_i hm1.k166 hm1.l166, cka_i hm1.k167 hm1.l167, cka_i hm1.k168 hm1.l168, cka_i hm1.k169 hm1.l169, cka_i hm1.k170 hm1.l170, cka_i hm1.k171 hm1.l171, cka_i hm1.k172 hm1.l172, cka_i hm1.k173 hm1.l173, cka_i hm1.k174 hm1.l174, cka_i hm1.k175 hm1.l175, cka_i hm1.k176 hm1.l176, cka_i hm1.k177 hm1.l177, cka_i hm1.k178 hm1.l178, cka_i hm1.k179 hm1.l179, cka_i hm1.k180 hm1.l180, cka_i hm1.k181 hm1.l181, cka_i hm1.k182 hm1.l182, cka_i hm1.k183 hm1.l183, cka_i hm1.k184 hm1.l184, cka_i hm1.k185 hm1.l185, cka_i hm1.k186 hm1.l186, cka_i hm1.k187 hm1.l187, cka_i hm1.k188 hm1.l188, cka_i hm1.k189 hm1.l189, cka_i hm1.k190 hm1.l190, e0, eh])
      exact fin _ rfl
    · rw [if_neg e] at fin
      (try simp (disch := omega) only [vl_s, bp_s, bd_s, bv_s, i32_nl, i32_n, i32_add, i32_sub, i32_mul, i32_neg, i32_ca, i32_cm, i32_cs, i32_cn, i32_le, i32_lt, i32_eq, i32_cl, Int.toNat_natCast, if_pos, if_neg, ite_true, ite_false, not_true_eq_false, not_false_eq_true, Nat.add_zero, Nat.zero_add, Nat.add_sub_cancel, ck_p, cko_si, cka_si, cko_sl, cka_sl, gi_e, gi_x, gl_e, gl_x, gr_si, gl_si, gi_sl, gr_sl, cko_c hm1.k (show 3 ∈ [3] by decide), dr_c hm1.r2, dr_c hm1.r9, dr_c hm1.r10, dr_c hm1.r11, dr_c hm1.r12, dr_c hm1.r13, dr_c hm1.r14, dr_c hm1.r15, dr_c hm1.r16, dr_c hm1.r21, dr_c hm1.r23, dr_c hm1.r24, dr_c hm1.r27, dr_c hm1.r28, dr_c hm1.r30, dr_c hm1.r33, dr_c hm1.r34, dr_c hm1.r36, dr_c hm1.r37, dr_c hm1.r38, dr_c hm1.r41, dr_c hm1.r43, dr_c hm1.r44, dr_c hm1.r45, dr_c hm1.r46, dr_c hm1.r47, dr_c hm1.r50, dr_c hm1.r51, dr_c hm1.r52, cka_i hm1.k162 hm1.l162, cka_i hm1.k163 hm1.l163, cka_i hm1.k164 hm1.l164, cka_i hm1.k165 hm1.l165, cka_i hm1.k166 hm1.l166, cka_i hm1.k167 hm1.l167, cka_i hm1.k168 hm1.l168, cka_i hm1.k169 hm1.l169, cka_i hm1.k170 hm1.l170, cka_i hm1.k171 hm1.l171, cka_i hm1.k172 hm1.l172, cka_i hm1.k173 hm1.l173, cka_i hm1.k174 hm1.l174, cka_i hm1.k175 hm1.l175, cka_i hm1.k176 hm1.l176, cka_i hm1.k177 hm1.l177, cka_i hm1.k178 hm1.l178, cka_i hm1.k179 hm1.l179, cka_i hm1.k180 hm1.l180, cka_i hm1.k181 hm1.l181, cka_i hm1.k182 hm1.l182, cka_i hm1.k183 hm1.l183, cka_i hm1.k184 hm1.l184, cka_i hm1.k185 hm1.l185, cka_i hm1.k186 hm1.l186, cka_i hm1.k187 hm1.l187, cka_i hm1.k188 hm1.l188, cka_i hm1.k189 hm1.l189, cka_i hm1.k190 hm1.l190, e0, eh, ec])
      exact fin _ rfl
  · have : l = 9 := by omega
    subst this
    (try simp (disch := omega) only [vl_s, bp_s, bd_s, bv_s, i32_nl, i32_n, i32_add, i32_sub, i32_mul, i32_neg, i32_ca, i32_cm, i32_cs, i32_cn, i32_le, i32_lt, i32_eq, i32_cl, Int.toNat_natCast, if_pos, if_neg, ite_true, ite_false, not_true_eq_false, not_false_eq_true, Nat.add_zero, Nat.zero_add, Nat.add_sub_cancel, ck_p, cko_si, cka_si, cko_sl, cka_sl, gi_e, gi_x, gl_e, gl_x, gr_si, gl_si, gi_sl, gr_sl])
    exact hK σ1 (h.go F1 (fun m hm => a1 m hm)) (F1.mono K180_M)
theorem M_laysLeast {S : St} {ch : Nat → Int} {σ : vMem} {B : Int} {n : Nat} (h : RM S σ) (hch : ArrIs σ 179 30 ch) (gch : gCh ch) (g : gSt B S) (hB : B ≤ 900000) (hn : n ≤ 30) : ok (f_X3_laysLeast σ 161 (i32 n)) (fun σ' => LstAt S ch σ' (leastF S ch n) ∧ Fr (KM [0]) 0 0 σ σ') := by
  have gw := g.now
  obtain ⟨⟨n1, n2, n3, n4, n5, n6, n7⟩, n8, n9⟩ := gw
  have hn0 := h.mn
  unfold f_X3_laysLeast
  (try simp (disch := omega) only [vl_s, bp_s, bd_s, bv_s, i32_nl, i32_n, i32_add, i32_sub, i32_mul, i32_neg, i32_ca, i32_cm, i32_cs, i32_cn, i32_le, i32_lt, i32_eq, i32_cl, Int.toNat_natCast, if_pos, if_neg, ite_true, ite_false, not_true_eq_false, not_false_eq_true, Nat.add_zero, Nat.zero_add, Nat.add_sub_cancel, ck_p, cko_si, cka_si, cko_sl, cka_sl, gi_e, gi_x, gl_e, gl_x, gr_si, gl_si, gi_sl, gr_sl])
  refine loop2 (F := f_X3_laysLeast_2 161 (i32 n) _) 9 (fun l σ1 v => v = i32 l ∧ RM S σ1 ∧ Fr K180 0 0 σ σ1 ∧ ∀ m, m < l → gi σ1 180 m = i32 (leastF S ch 0 m)) ?_ FU 0 σ _ (by omega) ⟨rfl, h, Fr.rf, fun m hm => by omega⟩ (by unfold FU; omega)
  rintro m l σ1 v hl ⟨rfl, q1, F1, a1⟩ IH
  have hm1 := q1.ml
  have e1 := q1.now.2.1
  rw [f_X3_laysLeast_2.eq_2]
  by_cases d : l < 9
  · have fin : ∀ z, z = leastF S ch 0 l → ok (f_X3_laysLeast_2 161 (i32 n) (fun σ_1 => f_X3_laysLeast_39 161 (i32 n) FU σ_1 (i32 ((1 : Nat) : Int))) m (si σ1 180 l (i32 z)) (i32 (l + 1 : Nat))) (fun σ' => LstAt S ch σ' (leastF S ch n) ∧ Fr (KM [0]) 0 0 σ σ') := by
      rintro z rfl
      refine IH d _ _ ⟨rfl, q1.u0 (Fr.rf.wm 0 rfl (by decide)), F1.wi (fun q => q.1 rfl), fun m hm => ?_⟩
      by_cases e : m = l
      · subst e; rw [gi_e ⟨rfl, rfl⟩]
      · rw [gi_x (by omega)]; exact a1 m (by omega)
    have el : leastF S ch 0 l = if (l : Int) = S.now.lane then 0 else 1000 := rfl
    rw [el] at fin
    clear IH
    by_cases e : (l : Int) = S.now.lane
    · rw [if_pos e] at fin
      (try simp (disch := omega) only [vl_s, bp_s, bd_s, bv_s, i32_nl, i32_n, i32_add, i32_sub, i32_mul, i32_neg, i32_ca, i32_cm, i32_cs, i32_cn, i32_le, i32_lt, i32_eq, i32_cl, Int.toNat_natCast, if_pos, if_neg, ite_true, ite_false, not_true_eq_false, not_false_eq_true, Nat.add_zero, Nat.zero_add, Nat.add_sub_cancel, ck_p, cko_si, cka_si, cko_sl, cka_sl, gi_e, gi_x, gl_e, gl_x, gr_si, gl_si, gi_sl, gr_sl, cko_c hm1.k (show 3 ∈ [3] by decide), dr_c hm1.r2, dr_c hm1.r9, dr_c hm1.r10, dr_c hm1.r11, dr_c hm1.r12, dr_c hm1.r13, dr_c hm1.r14, dr_c hm1.r15, dr_c hm1.r16, dr_c hm1.r21, dr_c hm1.r23, dr_c hm1.r24, dr_c hm1.r27, dr_c hm1.r28, dr_c hm1.r30, dr_c hm1.r33, dr_c hm1.r34, dr_c hm1.r36, dr_c hm1.r37, dr_c hm1.r38, dr_c hm1.r41, dr_c hm1.r43, dr_c hm1.r44, dr_c hm1.r45, dr_c hm1.r46, dr_c hm1.r47, dr_c hm1.r50, dr_c hm1.r51, dr_c hm1.r52, cka_i hm1.k162 hm1.l162, cka_i hm1.k163 hm1.l163, cka_i hm1.k164 hm1.l164, cka_i hm1.k165 hm1.l165, cka_i hm1.k166 hm1.l166, cka_i hm1.k167 hm1.l167, cka_i hm1.k168 hm1.l168, cka_i hm1.k169 hm1.l169, cka_i hm1.k170 hm1.l170, cka_i hm1.k171 hm1.l171, cka_i hm1.k172 hm1.l172, cka_i hm1.k173 hm1.l173, cka_i hm1.k174 hm1.l174, cka_i hm1.k175 hm1.l175, cka_i hm1.k176 hm1.l176, cka_i hm1.k177 hm1.l177, cka_i hm1.k178 hm1.l178, cka_i hm1.k179 hm1.l179, cka_i hm1.k180 hm1.l180, cka_i hm1.k181 hm1.l181, cka_i hm1.k182 hm1.l182, cka_i hm1.k183 hm1.l183, cka_i hm1.k184 hm1.l184, cka_i hm1.k185 hm1.l185, cka_i hm1.k186 hm1.l186, cka_i hm1.k187 hm1.l187, cka_i hm1.k188 hm1.l188, cka_i hm1.k189 hm1.l189, cka_i hm1.k190 hm1.l190, e1])
      exact fin _ rfl
    · rw [if_neg e] at fin
      (try simp (disch := omega) only [vl_s, bp_s, bd_s, bv_s, i32_nl, i32_n, i32_add, i32_sub, i32_mul, i32_neg, i32_ca, i32_cm, i32_cs, i32_cn, i32_le, i32_lt, i32_eq, i32_cl, Int.toNat_natCast, if_pos, if_neg, ite_true, ite_false, not_true_eq_false, not_false_eq_true, Nat.add_zero, Nat.zero_add, Nat.add_sub_cancel, ck_p, cko_si, cka_si, cko_sl, cka_sl, gi_e, gi_x, gl_e, gl_x, gr_si, gl_si, gi_sl, gr_sl, cko_c hm1.k (show 3 ∈ [3] by decide), dr_c hm1.r2, dr_c hm1.r9, dr_c hm1.r10, dr_c hm1.r11, dr_c hm1.r12, dr_c hm1.r13, dr_c hm1.r14, dr_c hm1.r15, dr_c hm1.r16, dr_c hm1.r21, dr_c hm1.r23, dr_c hm1.r24, dr_c hm1.r27, dr_c hm1.r28, dr_c hm1.r30, dr_c hm1.r33, dr_c hm1.r34, dr_c hm1.r36, dr_c hm1.r37, dr_c hm1.r38, dr_c hm1.r41, dr_c hm1.r43, dr_c hm1.r44, dr_c hm1.r45, dr_c hm1.r46, dr_c hm1.r47, dr_c hm1.r50, dr_c hm1.r51, dr_c hm1.r52, cka_i hm1.k162 hm1.l162, cka_i hm1.k163 hm1.l163, cka_i hm1.k164 hm1.l164, cka_i hm1.k165 hm1.l165, cka_i hm1.k166 hm1.l166, cka_i hm1.k167 hm1.l167, cka_i hm1.k168 hm1.l168, cka_i hm1.k169 hm1.l169, cka_i hm1.k170 hm1.l170, cka_i hm1.k171 hm1.l171, cka_i hm1.k172 hm1.l172, cka_i hm1.k173 hm1.l173, cka_i hm1.k174 hm1.l174, cka_i hm1.k175 hm1.l175, cka_i hm1.k176 hm1.l176, cka_i hm1.k177 hm1.l177, cka_i hm1.k178 hm1.l178, cka_i hm1.k179 hm1.l179, cka_i hm1.k180 hm1.l180, cka_i hm1.k181 hm1.l181, cka_i hm1.k182 hm1.l182, cka_i hm1.k183 hm1.l183, cka_i hm1.k184 hm1.l184, cka_i hm1.k185 hm1.l185, cka_i hm1.k186 hm1.l186, cka_i hm1.k187 hm1.l187, cka_i hm1.k188 hm1.l188, cka_i hm1.k189 hm1.l189, cka_i hm1.k190 hm1.l190, e1])
      exact fin _ rfl
  · have : l = 9 := by omega
    subst this
    clear IH
    (try simp (disch := omega) only [vl_s, bp_s, bd_s, bv_s, i32_nl, i32_n, i32_add, i32_sub, i32_mul, i32_neg, i32_ca, i32_cm, i32_cs, i32_cn, i32_le, i32_lt, i32_eq, i32_cl, Int.toNat_natCast, if_pos, if_neg, ite_true, ite_false, not_true_eq_false, not_false_eq_true, Nat.add_zero, Nat.zero_add, Nat.add_sub_cancel, ck_p, cko_si, cka_si, cko_sl, cka_sl, gi_e, gi_x, gl_e, gl_x, gr_si, gl_si, gi_sl, gr_sl])
    have L1 : LstAt S ch σ1 (leastF S ch 0) := ⟨q1, a1, fun k hk => by rw [F1.i (by omega) (by show (179 : Nat) ≠ 180 ∧ (179 : Nat) ≠ 181; decide)]; exact hch k hk⟩
    refine loop2 (F := f_X3_laysLeast_39 161 (i32 n)) n (fun t σ2 v => v = i32 (t + 1 : Nat) ∧ LstAt S ch σ2 (leastF S ch t) ∧ Fr (KM [0]) 0 0 σ σ2) ?_ FU 0 σ1 _ (by omega) ⟨rfl, L1, F1.mono K180_M⟩ (by unfold FU; omega)
    rintro m t σ2 v ht ⟨rfl, L2, F2⟩ IH
    rw [f_X3_laysLeast_39.eq_2]
    by_cases d : t < n
    · (try simp (disch := omega) only [vl_s, bp_s, bd_s, bv_s, i32_nl, i32_n, i32_add, i32_sub, i32_mul, i32_neg, i32_ca, i32_cm, i32_cs, i32_cn, i32_le, i32_lt, i32_eq, i32_cl, Int.toNat_natCast, if_pos, if_neg, ite_true, ite_false, not_true_eq_false, not_false_eq_true, Nat.add_zero, Nat.zero_add, Nat.add_sub_cancel, ck_p, cko_si, cka_si, cko_sl, cka_sl, gi_e, gi_x, gl_e, gl_x, gr_si, gl_si, gi_sl, gr_sl])
      have g0 := leastF_g S ch t
      refine M_ll46 L2 g0 g hB (by omega) (fun σ3 L3 F3 => ?_)
      have g1 := dueC_g (S := S) (t := t + 1) g0 S.now.ways.length
      refine M_ll105 L3 g1 gch g hB (by omega) (fun σ4 L4 F4 => ?_)
      have g2 := comC_g (S := S) (ch := ch) (t := t + 1) g1 (t + 1)
      refine M_ll156 L4 g2 g hB (by omega) (fun σ5 L5 F5 => ?_)
      exact IH d _ _ ⟨rfl, L5, ((F2.tr0 F3).tr0 F4).tr0 F5⟩
    · have : t = n := by omega
      subst this
      (try simp (disch := omega) only [vl_s, bp_s, bd_s, bv_s, i32_nl, i32_n, i32_add, i32_sub, i32_mul, i32_neg, i32_ca, i32_cm, i32_cs, i32_cn, i32_le, i32_lt, i32_eq, i32_cl, Int.toNat_natCast, if_pos, if_neg, ite_true, ite_false, not_true_eq_false, not_false_eq_true, Nat.add_zero, Nat.zero_add, Nat.add_sub_cancel, ck_p, cko_si, cka_si, cko_sl, cka_sl, gi_e, gi_x, gl_e, gl_x, gr_si, gl_si, gi_sl, gr_sl])
      exact ok_some ⟨L2, F2⟩
def fewN (c : Nat → Int) : Nat → Int
  | 0 => 1000
  | l + 1 => min (fewN c l) (c l)
theorem fewN_b {c : Nat → Int} (hc : gC c) : ∀ l, l ≤ 9 → 0 ≤ fewN c l ∧ fewN c l ≤ 1000
  | 0, _ => ⟨by show (0 : Int) ≤ 1000; decide, Int.le_refl _⟩
  | l + 1, h => by
    have ih := fewN_b hc l (by omega)
    have := hc l (by omega)
    show 0 ≤ min (fewN c l) (c l) ∧ min (fewN c l) (c l) ≤ 1000
    omega
def fewF (S : St) (ch : Nat → Int) (n : Nat) : Int := fewN (leastF S ch n) 9
theorem M_fewestOrders {S : St} {ch : Nat → Int} {σ : vMem} {B : Int} {n : Nat} (h : RM S σ) (hch : ArrIs σ 179 30 ch) (gch : gCh ch) (g : gSt B S) (hB : B ≤ 900000) (hn : n ≤ 30) : ok (f_X3_fewestOrders σ 161 (i32 n)) (fun r => r.1 = i32 (fewF S ch n) ∧ RM S r.2 ∧ ArrIs r.2 179 30 ch ∧ Fr (KM [0]) 0 0 σ r.2) := by
  have hm := h.ml
  unfold f_X3_fewestOrders
  (try simp (disch := omega) only [vl_s, bp_s, bd_s, bv_s, i32_nl, i32_n, i32_add, i32_sub, i32_mul, i32_neg, i32_ca, i32_cm, i32_cs, i32_cn, i32_le, i32_lt, i32_eq, i32_cl, Int.toNat_natCast, if_pos, if_neg, ite_true, ite_false, not_true_eq_false, not_false_eq_true, Nat.add_zero, Nat.zero_add, Nat.add_sub_cancel, ck_p, cko_si, cka_si, cko_sl, cka_sl, gi_e, gi_x, gl_e, gl_x, gr_si, gl_si, gi_sl, gr_sl, cko_c hm.k (show 3 ∈ [3] by decide), dr_c hm.r2, dr_c hm.r9, dr_c hm.r10, dr_c hm.r11, dr_c hm.r12, dr_c hm.r13, dr_c hm.r14, dr_c hm.r15, dr_c hm.r16, dr_c hm.r21, dr_c hm.r23, dr_c hm.r24, dr_c hm.r27, dr_c hm.r28, dr_c hm.r30, dr_c hm.r33, dr_c hm.r34, dr_c hm.r36, dr_c hm.r37, dr_c hm.r38, dr_c hm.r41, dr_c hm.r43, dr_c hm.r44, dr_c hm.r45, dr_c hm.r46, dr_c hm.r47, dr_c hm.r50, dr_c hm.r51, dr_c hm.r52, cka_i hm.k162 hm.l162, cka_i hm.k163 hm.l163, cka_i hm.k164 hm.l164, cka_i hm.k165 hm.l165, cka_i hm.k166 hm.l166, cka_i hm.k167 hm.l167, cka_i hm.k168 hm.l168, cka_i hm.k169 hm.l169, cka_i hm.k170 hm.l170, cka_i hm.k171 hm.l171, cka_i hm.k172 hm.l172, cka_i hm.k173 hm.l173, cka_i hm.k174 hm.l174, cka_i hm.k175 hm.l175, cka_i hm.k176 hm.l176, cka_i hm.k177 hm.l177, cka_i hm.k178 hm.l178, cka_i hm.k179 hm.l179, cka_i hm.k180 hm.l180, cka_i hm.k181 hm.l181, cka_i hm.k182 hm.l182, cka_i hm.k183 hm.l183, cka_i hm.k184 hm.l184, cka_i hm.k185 hm.l185, cka_i hm.k186 hm.l186, cka_i hm.k187 hm.l187, cka_i hm.k188 hm.l188, cka_i hm.k189 hm.l189, cka_i hm.k190 hm.l190])
  refine ok_bv (M_laysLeast h hch gch g hB hn) ?_
  rintro σ1 ⟨L1, F1⟩
  have hm1 := L1.1.ml
  have gl := leastF_g S ch n
  refine loop2 (F := f_X3_fewestOrders_11 161 σ1) 9 (fun l a x => x = i32 l ∧ a = i32 (fewN (leastF S ch n) l)) ?_ FU 0 _ _ (by omega) ⟨rfl, rfl⟩ (by unfold FU; omega)
  rintro m l a x hl ⟨rfl, rfl⟩ IH
  rw [f_X3_fewestOrders_11.eq_2]
  by_cases d : l < 9
  · have e1 := L1.2.1 l d
    have b1 := fewN_b gl l (by omega)
    have b2 := gl l d
    (try simp (disch := omega) only [vl_s, bp_s, bd_s, bv_s, i32_nl, i32_n, i32_add, i32_sub, i32_mul, i32_neg, i32_ca, i32_cm, i32_cs, i32_cn, i32_le, i32_lt, i32_eq, i32_cl, Int.toNat_natCast, if_pos, if_neg, ite_true, ite_false, not_true_eq_false, not_false_eq_true, Nat.add_zero, Nat.zero_add, Nat.add_sub_cancel, ck_p, cko_si, cka_si, cko_sl, cka_sl, gi_e, gi_x, gl_e, gl_x, gr_si, gl_si, gi_sl, gr_sl, cko_c hm1.k (show 3 ∈ [3] by decide), dr_c hm1.r2, dr_c hm1.r9, dr_c hm1.r10, dr_c hm1.r11, dr_c hm1.r12, dr_c hm1.r13, dr_c hm1.r14, dr_c hm1.r15, dr_c hm1.r16, dr_c hm1.r21, dr_c hm1.r23, dr_c hm1.r24, dr_c hm1.r27, dr_c hm1.r28, dr_c hm1.r30, dr_c hm1.r33, dr_c hm1.r34, dr_c hm1.r36, dr_c hm1.r37, dr_c hm1.r38, dr_c hm1.r41, dr_c hm1.r43, dr_c hm1.r44, dr_c hm1.r45, dr_c hm1.r46, dr_c hm1.r47, dr_c hm1.r50, dr_c hm1.r51, dr_c hm1.r52, cka_i hm1.k162 hm1.l162, cka_i hm1.k163 hm1.l163, cka_i hm1.k164 hm1.l164, cka_i hm1.k165 hm1.l165, cka_i hm1.k166 hm1.l166, cka_i hm1.k167 hm1.l167, cka_i hm1.k168 hm1.l168, cka_i hm1.k169 hm1.l169, cka_i hm1.k170 hm1.l170, cka_i hm1.k171 hm1.l171, cka_i hm1.k172 hm1.l172, cka_i hm1.k173 hm1.l173, cka_i hm1.k174 hm1.l174, cka_i hm1.k175 hm1.l175, cka_i hm1.k176 hm1.l176, cka_i hm1.k177 hm1.l177, cka_i hm1.k178 hm1.l178, cka_i hm1.k179 hm1.l179, cka_i hm1.k180 hm1.l180, cka_i hm1.k181 hm1.l181, cka_i hm1.k182 hm1.l182, cka_i hm1.k183 hm1.l183, cka_i hm1.k184 hm1.l184, cka_i hm1.k185 hm1.l185, cka_i hm1.k186 hm1.l186, cka_i hm1.k187 hm1.l187, cka_i hm1.k188 hm1.l188, cka_i hm1.k189 hm1.l189, cka_i hm1.k190 hm1.l190, e1, imin_i])
    exact IH d _ _ ⟨rfl, rfl⟩
  · have : l = 9 := by omega
    subst this
    (try simp (disch := omega) only [vl_s, bp_s, bd_s, bv_s, i32_nl, i32_n, i32_add, i32_sub, i32_mul, i32_neg, i32_ca, i32_cm, i32_cs, i32_cn, i32_le, i32_lt, i32_eq, i32_cl, Int.toNat_natCast, if_pos, if_neg, ite_true, ite_false, not_true_eq_false, not_false_eq_true, Nat.add_zero, Nat.zero_add, Nat.add_sub_cancel, ck_p, cko_si, cka_si, cko_sl, cka_sl, gi_e, gi_x, gl_e, gl_x, gr_si, gl_si, gi_sl, gr_sl])
    exact ok_some ⟨rfl, L1.1, L1.2.2, F1⟩
def anyF (f : Nat) (k : Nat) : Int := if k < f then 0 else 2
theorem anyF_g (f : Nat) : gCh (anyF f) := fun k _ => by unfold anyF; split <;> omega
theorem M_choosesAny {S : St} {σ : vMem} {f : Nat} (h : RM S σ) (hf : f ≤ 30) : ok (f_X3_choosesAny σ 161 (i32 f)) (fun σ' => RM S σ' ∧ ArrIs σ' 179 30 (anyF f) ∧ Fr (KM [0]) 0 0 σ σ') := by
  unfold f_X3_choosesAny
  refine loop2 (F := f_X3_choosesAny_2 161 (i32 f)) 30 (fun l σ1 v => v = i32 l ∧ RM S σ1 ∧ Fr (KM [0]) 0 0 σ σ1 ∧ ∀ m, m < l → gi σ1 179 m = i32 (anyF f m)) ?_ FU 0 σ _ (by omega) ⟨rfl, h, Fr.rf, fun m hm => by omega⟩ (by unfold FU; omega)
  rintro n l σ1 v hl ⟨rfl, q1, F1, a1⟩ IH
  have hm1 := q1.ml
  rw [f_X3_choosesAny_2.eq_2]
  by_cases d : l < 30
  · have fin : ∀ z, z = anyF f l → ok (f_X3_choosesAny_2 161 (i32 f) n (si σ1 179 l (i32 z)) (i32 (l + 1 : Nat))) (fun σ' => RM S σ' ∧ ArrIs σ' 179 30 (anyF f) ∧ Fr (KM [0]) 0 0 σ σ') := by
      rintro z rfl
      refine IH d _ _ ⟨rfl, q1.u0 (Fr.rf.wm 0 rfl (by decide)), F1.wm 0 rfl (by decide), fun m hm => ?_⟩
      by_cases e : m = l
      · subst e; rw [gi_e ⟨rfl, rfl⟩]
      · rw [gi_x (by omega)]; exact a1 m (by omega)
    unfold anyF at fin
    clear IH
    by_cases e : l < f
    · rw [if_pos e] at fin
      (try simp (disch := omega) only [vl_s, bp_s, bd_s, bv_s, i32_nl, i32_n, i32_add, i32_sub, i32_mul, i32_neg, i32_ca, i32_cm, i32_cs, i32_cn, i32_le, i32_lt, i32_eq, i32_cl, Int.toNat_natCast, if_pos, if_neg, ite_true, ite_false, not_true_eq_false, not_false_eq_true, Nat.add_zero, Nat.zero_add, Nat.add_sub_cancel, ck_p, cko_si, cka_si, cko_sl, cka_sl, gi_e, gi_x, gl_e, gl_x, gr_si, gl_si, gi_sl, gr_sl, cko_c hm1.k (show 3 ∈ [3] by decide), dr_c hm1.r2, dr_c hm1.r9, dr_c hm1.r10, dr_c hm1.r11, dr_c hm1.r12, dr_c hm1.r13, dr_c hm1.r14, dr_c hm1.r15, dr_c hm1.r16, dr_c hm1.r21, dr_c hm1.r23, dr_c hm1.r24, dr_c hm1.r27, dr_c hm1.r28, dr_c hm1.r30, dr_c hm1.r33, dr_c hm1.r34, dr_c hm1.r36, dr_c hm1.r37, dr_c hm1.r38, dr_c hm1.r41, dr_c hm1.r43, dr_c hm1.r44, dr_c hm1.r45, dr_c hm1.r46, dr_c hm1.r47, dr_c hm1.r50, dr_c hm1.r51, dr_c hm1.r52, cka_i hm1.k162 hm1.l162, cka_i hm1.k163 hm1.l163, cka_i hm1.k164 hm1.l164, cka_i hm1.k165 hm1.l165, cka_i hm1.k166 hm1.l166, cka_i hm1.k167 hm1.l167, cka_i hm1.k168 hm1.l168, cka_i hm1.k169 hm1.l169, cka_i hm1.k170 hm1.l170, cka_i hm1.k171 hm1.l171, cka_i hm1.k172 hm1.l172, cka_i hm1.k173 hm1.l173, cka_i hm1.k174 hm1.l174, cka_i hm1.k175 hm1.l175, cka_i hm1.k176 hm1.l176, cka_i hm1.k177 hm1.l177, cka_i hm1.k178 hm1.l178, cka_i hm1.k179 hm1.l179, cka_i hm1.k180 hm1.l180, cka_i hm1.k181 hm1.l181, cka_i hm1.k182 hm1.l182, cka_i hm1.k183 hm1.l183, cka_i hm1.k184 hm1.l184, cka_i hm1.k185 hm1.l185, cka_i hm1.k186 hm1.l186, cka_i hm1.k187 hm1.l187, cka_i hm1.k188 hm1.l188, cka_i hm1.k189 hm1.l189, cka_i hm1.k190 hm1.l190])
      exact fin _ rfl
    · rw [if_neg e] at fin
      (try simp (disch := omega) only [vl_s, bp_s, bd_s, bv_s, i32_nl, i32_n, i32_add, i32_sub, i32_mul, i32_neg, i32_ca, i32_cm, i32_cs, i32_cn, i32_le, i32_lt, i32_eq, i32_cl, Int.toNat_natCast, if_pos, if_neg, ite_true, ite_false, not_true_eq_false, not_false_eq_true, Nat.add_zero, Nat.zero_add, Nat.add_sub_cancel, ck_p, cko_si, cka_si, cko_sl, cka_sl, gi_e, gi_x, gl_e, gl_x, gr_si, gl_si, gi_sl, gr_sl, cko_c hm1.k (show 3 ∈ [3] by decide), dr_c hm1.r2, dr_c hm1.r9, dr_c hm1.r10, dr_c hm1.r11, dr_c hm1.r12, dr_c hm1.r13, dr_c hm1.r14, dr_c hm1.r15, dr_c hm1.r16, dr_c hm1.r21, dr_c hm1.r23, dr_c hm1.r24, dr_c hm1.r27, dr_c hm1.r28, dr_c hm1.r30, dr_c hm1.r33, dr_c hm1.r34, dr_c hm1.r36, dr_c hm1.r37, dr_c hm1.r38, dr_c hm1.r41, dr_c hm1.r43, dr_c hm1.r44, dr_c hm1.r45, dr_c hm1.r46, dr_c hm1.r47, dr_c hm1.r50, dr_c hm1.r51, dr_c hm1.r52, cka_i hm1.k162 hm1.l162, cka_i hm1.k163 hm1.l163, cka_i hm1.k164 hm1.l164, cka_i hm1.k165 hm1.l165, cka_i hm1.k166 hm1.l166, cka_i hm1.k167 hm1.l167, cka_i hm1.k168 hm1.l168, cka_i hm1.k169 hm1.l169, cka_i hm1.k170 hm1.l170, cka_i hm1.k171 hm1.l171, cka_i hm1.k172 hm1.l172, cka_i hm1.k173 hm1.l173, cka_i hm1.k174 hm1.l174, cka_i hm1.k175 hm1.l175, cka_i hm1.k176 hm1.l176, cka_i hm1.k177 hm1.l177, cka_i hm1.k178 hm1.l178, cka_i hm1.k179 hm1.l179, cka_i hm1.k180 hm1.l180, cka_i hm1.k181 hm1.l181, cka_i hm1.k182 hm1.l182, cka_i hm1.k183 hm1.l183, cka_i hm1.k184 hm1.l184, cka_i hm1.k185 hm1.l185, cka_i hm1.k186 hm1.l186, cka_i hm1.k187 hm1.l187, cka_i hm1.k188 hm1.l188, cka_i hm1.k189 hm1.l189, cka_i hm1.k190 hm1.l190])
      exact fin _ rfl
  · have : l = 30 := by omega
    subst this
    (try simp (disch := omega) only [vl_s, bp_s, bd_s, bv_s, i32_nl, i32_n, i32_add, i32_sub, i32_mul, i32_neg, i32_ca, i32_cm, i32_cs, i32_cn, i32_le, i32_lt, i32_eq, i32_cl, Int.toNat_natCast, if_pos, if_neg, ite_true, ite_false, not_true_eq_false, not_false_eq_true, Nat.add_zero, Nat.zero_add, Nat.add_sub_cancel, ck_p, cko_si, cka_si, cko_sl, cka_sl, gi_e, gi_x, gl_e, gl_x, gr_si, gl_si, gi_sl, gr_sl])
    exact ok_some ⟨q1, a1, F1⟩
/-- from n - 1 down: the latest step from which orders do -/
def latF (S : St) (n : Nat) : Nat → Int
  | 0 => -2
  | k + 1 => if fewF S (anyF k) n < 1000 then (k : Int) else latF S n k
def aLatest (S : St) (n : Int) : Int := if 1 ≤ n ∧ n ≤ 30 then latF S n.toNat n.toNat else -1
theorem M_latest {S : St} {σ : vMem} {B n : Int} (h : RM S σ) (g : gSt B S) (hB : B ≤ 900000) (h1 : -2147483648 ≤ n) (h2 : n < 2147483648) : ok (f_X3_latest σ 161 (i32 n)) (fun r => r.1 = i32 (aLatest S n) ∧ RM S r.2 ∧ FM σ r.2) := by
  have hm := h.ml
  have q0 := M_thrown h (i32 ((0 : Nat) : Int))
  generalize hQ : (fun r : Int32 × vMem => r.1 = i32 (aLatest S n) ∧ RM S r.2 ∧ FM σ r.2) = Q
  unfold f_X3_latest
  by_cases c : 1 ≤ n ∧ n ≤ 30
  · obtain ⟨m, rfl⟩ : ∃ m : Nat, n = m := ⟨n.toNat, by omega⟩
    have fin : ∀ σ1 x, RM S σ1 → FM σ σ1 → x = latF S m m → ok (some (i32 x, σ1)) Q := by
      rintro σ1 x r1 G1 rfl
      rw [← hQ]
      unfold aLatest
      rw [if_pos c, Int.toNat_natCast]
      exact ok_some ⟨rfl, r1, G1⟩
    (try simp (disch := omega) only [vl_s, bp_s, bd_s, bv_s, i32_nl, i32_n, i32_add, i32_sub, i32_mul, i32_neg, i32_ca, i32_cm, i32_cs, i32_cn, i32_le, i32_lt, i32_eq, i32_cl, Int.toNat_natCast, if_pos, if_neg, ite_true, ite_false, not_true_eq_false, not_false_eq_true, Nat.add_zero, Nat.zero_add, Nat.add_sub_cancel, ck_p, cko_si, cka_si, cko_sl, cka_sl, gi_e, gi_x, gl_e, gl_x, gr_si, gl_si, gi_sl, gr_sl, cko_c hm.k (show 3 ∈ [3] by decide), dr_c hm.r2, dr_c hm.r9, dr_c hm.r10, dr_c hm.r11, dr_c hm.r12, dr_c hm.r13, dr_c hm.r14, dr_c hm.r15, dr_c hm.r16, dr_c hm.r21, dr_c hm.r23, dr_c hm.r24, dr_c hm.r27, dr_c hm.r28, dr_c hm.r30, dr_c hm.r33, dr_c hm.r34, dr_c hm.r36, dr_c hm.r37, dr_c hm.r38, dr_c hm.r41, dr_c hm.r43, dr_c hm.r44, dr_c hm.r45, dr_c hm.r46, dr_c hm.r47, dr_c hm.r50, dr_c hm.r51, dr_c hm.r52, cka_i hm.k162 hm.l162, cka_i hm.k163 hm.l163, cka_i hm.k164 hm.l164, cka_i hm.k165 hm.l165, cka_i hm.k166 hm.l166, cka_i hm.k167 hm.l167, cka_i hm.k168 hm.l168, cka_i hm.k169 hm.l169, cka_i hm.k170 hm.l170, cka_i hm.k171 hm.l171, cka_i hm.k172 hm.l172, cka_i hm.k173 hm.l173, cka_i hm.k174 hm.l174, cka_i hm.k175 hm.l175, cka_i hm.k176 hm.l176, cka_i hm.k177 hm.l177, cka_i hm.k178 hm.l178, cka_i hm.k179 hm.l179, cka_i hm.k180 hm.l180, cka_i hm.k181 hm.l181, cka_i hm.k182 hm.l182, cka_i hm.k183 hm.l183, cka_i hm.k184 hm.l184, cka_i hm.k185 hm.l185, cka_i hm.k186 hm.l186, cka_i hm.k187 hm.l187, cka_i hm.k188 hm.l188, cka_i hm.k189 hm.l189, cka_i hm.k190 hm.l190, X3_inI, X1_inI, i32_64, b01_i0, b01_i1, i64_m1, i64_0, i64_1, i64_2, i64_3, i64_8, i64_9, i64_10, i64_12, i64_15, i64_18, i64_20, i64_24, i64_30, i64_39, i64_48, i64_57, i64_60, i64_99, i64_100, i64_999, i64_99999])
    refine loop2 (F := f_X3_latest_23 161 (i32 m)) m (fun i σ1 x => x = i32 (((m - i : Nat) : Int) - 1) ∧ RM S σ1 ∧ FM σ σ1 ∧ latF S m m = latF S m (m - i)) ?_ FU 0 _ _ (by omega) ⟨?_, q0, FM_thrown, rfl⟩ (by unfold FU; omega)
    · rintro n i σ1 x hi ⟨rfl, q1, G1, hl⟩ IH
      have hm1 := q1.ml
      rw [f_X3_latest_23.eq_2]
      by_cases d : i < m
      · obtain ⟨k, hk⟩ : ∃ k, m - i = k + 1 := ⟨m - i - 1, by omega⟩
        have ek : ((m - i : Nat) : Int) - 1 = (k : Int) := by omega
        rw [hk] at hl
        have el : latF S m (k + 1) = if fewF S (anyF k) m < 1000 then (k : Int) else latF S m k := rfl
        rw [ek]
        (try simp (disch := omega) only [vl_s, bp_s, bd_s, bv_s, i32_nl, i32_n, i32_add, i32_sub, i32_mul, i32_neg, i32_ca, i32_cm, i32_cs, i32_cn, i32_le, i32_lt, i32_eq, i32_cl, Int.toNat_natCast, if_pos, if_neg, ite_true, ite_false, not_true_eq_false, not_false_eq_true, Nat.add_zero, Nat.zero_add, Nat.add_sub_cancel, ck_p, cko_si, cka_si, cko_sl, cka_sl, gi_e, gi_x, gl_e, gl_x, gr_si, gl_si, gi_sl, gr_sl, cko_c hm1.k (show 3 ∈ [3] by decide), dr_c hm1.r2, dr_c hm1.r9, dr_c hm1.r10, dr_c hm1.r11, dr_c hm1.r12, dr_c hm1.r13, dr_c hm1.r14, dr_c hm1.r15, dr_c hm1.r16, dr_c hm1.r21, dr_c hm1.r23, dr_c hm1.r24, dr_c hm1.r27, dr_c hm1.r28, dr_c hm1.r30, dr_c hm1.r33, dr_c hm1.r34, dr_c hm1.r36, dr_c hm1.r37, dr_c hm1.r38, dr_c hm1.r41, dr_c hm1.r43, dr_c hm1.r44, dr_c hm1.r45, dr_c hm1.r46, dr_c hm1.r47, dr_c hm1.r50, dr_c hm1.r51, dr_c hm1.r52, cka_i hm1.k162 hm1.l162, cka_i hm1.k163 hm1.l163, cka_i hm1.k164 hm1.l164, cka_i hm1.k165 hm1.l165, cka_i hm1.k166 hm1.l166, cka_i hm1.k167 hm1.l167, cka_i hm1.k168 hm1.l168, cka_i hm1.k169 hm1.l169, cka_i hm1.k170 hm1.l170, cka_i hm1.k171 hm1.l171, cka_i hm1.k172 hm1.l172, cka_i hm1.k173 hm1.l173, cka_i hm1.k174 hm1.l174, cka_i hm1.k175 hm1.l175, cka_i hm1.k176 hm1.l176, cka_i hm1.k177 hm1.l177, cka_i hm1.k178 hm1.l178, cka_i hm1.k179 hm1.l179, cka_i hm1.k180 hm1.l180, cka_i hm1.k181 hm1.l181, cka_i hm1.k182 hm1.l182, cka_i hm1.k183 hm1.l183, cka_i hm1.k184 hm1.l184, cka_i hm1.k185 hm1.l185, cka_i hm1.k186 hm1.l186, cka_i hm1.k187 hm1.l187, cka_i hm1.k188 hm1.l188, cka_i hm1.k189 hm1.l189, cka_i hm1.k190 hm1.l190])
        refine ok_bv (M_choosesAny (f := k) q1 (by omega)) ?_
        rintro σ2 ⟨q2, a2, F2⟩
        have hm2 := q2.ml
        (try simp (disch := omega) only [vl_s, bp_s, bd_s, bv_s, i32_nl, i32_n, i32_add, i32_sub, i32_mul, i32_neg, i32_ca, i32_cm, i32_cs, i32_cn, i32_le, i32_lt, i32_eq, i32_cl, Int.toNat_natCast, if_pos, if_neg, ite_true, ite_false, not_true_eq_false, not_false_eq_true, Nat.add_zero, Nat.zero_add, Nat.add_sub_cancel, ck_p, cko_si, cka_si, cko_sl, cka_sl, gi_e, gi_x, gl_e, gl_x, gr_si, gl_si, gi_sl, gr_sl, cko_c hm2.k (show 3 ∈ [3] by decide), dr_c hm2.r2, dr_c hm2.r9, dr_c hm2.r10, dr_c hm2.r11, dr_c hm2.r12, dr_c hm2.r13, dr_c hm2.r14, dr_c hm2.r15, dr_c hm2.r16, dr_c hm2.r21, dr_c hm2.r23, dr_c hm2.r24, dr_c hm2.r27, dr_c hm2.r28, dr_c hm2.r30, dr_c hm2.r33, dr_c hm2.r34, dr_c hm2.r36, dr_c hm2.r37, dr_c hm2.r38, dr_c hm2.r41, dr_c hm2.r43, dr_c hm2.r44, dr_c hm2.r45, dr_c hm2.r46, dr_c hm2.r47, dr_c hm2.r50, dr_c hm2.r51, dr_c hm2.r52, cka_i hm2.k162 hm2.l162, cka_i hm2.k163 hm2.l163, cka_i hm2.k164 hm2.l164, cka_i hm2.k165 hm2.l165, cka_i hm2.k166 hm2.l166, cka_i hm2.k167 hm2.l167, cka_i hm2.k168 hm2.l168, cka_i hm2.k169 hm2.l169, cka_i hm2.k170 hm2.l170, cka_i hm2.k171 hm2.l171, cka_i hm2.k172 hm2.l172, cka_i hm2.k173 hm2.l173, cka_i hm2.k174 hm2.l174, cka_i hm2.k175 hm2.l175, cka_i hm2.k176 hm2.l176, cka_i hm2.k177 hm2.l177, cka_i hm2.k178 hm2.l178, cka_i hm2.k179 hm2.l179, cka_i hm2.k180 hm2.l180, cka_i hm2.k181 hm2.l181, cka_i hm2.k182 hm2.l182, cka_i hm2.k183 hm2.l183, cka_i hm2.k184 hm2.l184, cka_i hm2.k185 hm2.l185, cka_i hm2.k186 hm2.l186, cka_i hm2.k187 hm2.l187, cka_i hm2.k188 hm2.l188, cka_i hm2.k189 hm2.l189, cka_i hm2.k190 hm2.l190])
        refine ok_bd (M_fewestOrders q2 a2 (anyF_g k) g hB (by omega)) ?_
        rintro y σ3 ⟨rfl, q3, a3, F3⟩
        have fb : 0 ≤ fewF S (anyF k) m ∧ fewF S (anyF k) m ≤ 1000 := fewN_b (leastF_g S (anyF k) m) 9 (by omega)
        have G3 := (G1.tr0 (F2.rsm (by decide))).tr0 (F3.rsm (by decide))
        by_cases e : fewF S (anyF k) m < 1000
        · (try simp (disch := omega) only [vl_s, bp_s, bd_s, bv_s, i32_nl, i32_n, i32_add, i32_sub, i32_mul, i32_neg, i32_ca, i32_cm, i32_cs, i32_cn, i32_le, i32_lt, i32_eq, i32_cl, Int.toNat_natCast, if_pos, if_neg, ite_true, ite_false, not_true_eq_false, not_false_eq_true, Nat.add_zero, Nat.zero_add, Nat.add_sub_cancel, ck_p, cko_si, cka_si, cko_sl, cka_sl, gi_e, gi_x, gl_e, gl_x, gr_si, gl_si, gi_sl, gr_sl])
          exact fin σ3 _ q3 G3 (by rw [hl, el, if_pos e])
        · (try simp (disch := omega) only [vl_s, bp_s, bd_s, bv_s, i32_nl, i32_n, i32_add, i32_sub, i32_mul, i32_neg, i32_ca, i32_cm, i32_cs, i32_cn, i32_le, i32_lt, i32_eq, i32_cl, Int.toNat_natCast, if_pos, if_neg, ite_true, ite_false, not_true_eq_false, not_false_eq_true, Nat.add_zero, Nat.zero_add, Nat.add_sub_cancel, ck_p, cko_si, cka_si, cko_sl, cka_sl, gi_e, gi_x, gl_e, gl_x, gr_si, gl_si, gi_sl, gr_sl])
          refine IH d _ _ ⟨?_, q3, G3, ?_⟩
          · congr 1; omega
          · rw [hl, el, if_neg e]; congr 1; omega
      · have : i = m := by omega
        subst this
        rw [Nat.sub_self] at hl
        rw [Nat.sub_self, show (((0 : Nat) : Int) - 1) = -1 from rfl]
        (try simp (disch := omega) only [vl_s, bp_s, bd_s, bv_s, i32_nl, i32_n, i32_add, i32_sub, i32_mul, i32_neg, i32_ca, i32_cm, i32_cs, i32_cn, i32_le, i32_lt, i32_eq, i32_cl, Int.toNat_natCast, if_pos, if_neg, ite_true, ite_false, not_true_eq_false, not_false_eq_true, Nat.add_zero, Nat.zero_add, Nat.add_sub_cancel, ck_p, cko_si, cka_si, cko_sl, cka_sl, gi_e, gi_x, gl_e, gl_x, gr_si, gl_si, gi_sl, gr_sl])
        exact fin σ1 _ q1 G1 (by rw [hl]; rfl)
    · congr 1; omega
  · (try simp (disch := omega) only [vl_s, bp_s, bd_s, bv_s, i32_nl, i32_n, i32_add, i32_sub, i32_mul, i32_neg, i32_ca, i32_cm, i32_cs, i32_cn, i32_le, i32_lt, i32_eq, i32_cl, Int.toNat_natCast, if_pos, if_neg, ite_true, ite_false, not_true_eq_false, not_false_eq_true, Nat.add_zero, Nat.zero_add, Nat.add_sub_cancel, ck_p, cko_si, cka_si, cko_sl, cka_sl, gi_e, gi_x, gl_e, gl_x, gr_si, gl_si, gi_sl, gr_sl, cko_c hm.k (show 3 ∈ [3] by decide), dr_c hm.r2, dr_c hm.r9, dr_c hm.r10, dr_c hm.r11, dr_c hm.r12, dr_c hm.r13, dr_c hm.r14, dr_c hm.r15, dr_c hm.r16, dr_c hm.r21, dr_c hm.r23, dr_c hm.r24, dr_c hm.r27, dr_c hm.r28, dr_c hm.r30, dr_c hm.r33, dr_c hm.r34, dr_c hm.r36, dr_c hm.r37, dr_c hm.r38, dr_c hm.r41, dr_c hm.r43, dr_c hm.r44, dr_c hm.r45, dr_c hm.r46, dr_c hm.r47, dr_c hm.r50, dr_c hm.r51, dr_c hm.r52, cka_i hm.k162 hm.l162, cka_i hm.k163 hm.l163, cka_i hm.k164 hm.l164, cka_i hm.k165 hm.l165, cka_i hm.k166 hm.l166, cka_i hm.k167 hm.l167, cka_i hm.k168 hm.l168, cka_i hm.k169 hm.l169, cka_i hm.k170 hm.l170, cka_i hm.k171 hm.l171, cka_i hm.k172 hm.l172, cka_i hm.k173 hm.l173, cka_i hm.k174 hm.l174, cka_i hm.k175 hm.l175, cka_i hm.k176 hm.l176, cka_i hm.k177 hm.l177, cka_i hm.k178 hm.l178, cka_i hm.k179 hm.l179, cka_i hm.k180 hm.l180, cka_i hm.k181 hm.l181, cka_i hm.k182 hm.l182, cka_i hm.k183 hm.l183, cka_i hm.k184 hm.l184, cka_i hm.k185 hm.l185, cka_i hm.k186 hm.l186, cka_i hm.k187 hm.l187, cka_i hm.k188 hm.l188, cka_i hm.k189 hm.l189, cka_i hm.k190 hm.l190, X3_inI, X1_inI, i32_64, b01_i0, b01_i1, i64_m1, i64_0, i64_1, i64_2, i64_3, i64_8, i64_9, i64_10, i64_12, i64_15, i64_18, i64_20, i64_24, i64_30, i64_39, i64_48, i64_57, i64_60, i64_99, i64_100, i64_999, i64_99999])
    rw [← hQ]
    unfold aLatest
    rw [if_neg c]
    exact ok_some ⟨rfl, q0, FM_thrown⟩
