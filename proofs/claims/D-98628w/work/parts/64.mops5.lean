/-! THE MODEL'S ACTS: kept watches, where she will be -/
set_option maxRecDepth 100000
def setP (S : St) (i : Nat) (ad : Nat) : Pgs := fun j => if j = i then some (ad, S.now, S.mes.2.2) else S.pgs j
def aKeep (i : Int) : Int32 := if 0 ≤ i ∧ i ≤ 2 then 1 else 0
def nKeep (S : St) (i : Int) (ad : Nat) : St := if 0 ≤ i ∧ i ≤ 2 then S.wPgs (setP S i.toNat ad) else S
theorem M_keep {S : St} {σ : vMem} {B i : Int} (ad : Nat) (h : RM S σ) (g : gSt B S) (h1 : -2147483648 ≤ i) (h2 : i < 2147483648) : ok (f_X3_keep σ 161 (i32 i)) (fun r => r.1 = aKeep i ∧ RM (nKeep S i ad) r.2 ∧ FM σ r.2) := by
  have hm := h.ml
  have hn := h.mn
  have h8 := h.mes.2.1
  generalize hQ : (fun r : Int32 × vMem => r.1 = aKeep i ∧ RM (nKeep S i ad) r.2 ∧ FM σ r.2) = Q
  unfold f_X3_keep
  by_cases c : 0 ≤ i ∧ i ≤ 2
  · obtain ⟨k, rfl⟩ : ∃ k : Nat, i = k := ⟨i.toNat, by omega⟩
    (try simp (disch := omega) only [vl_s, bp_s, bd_s, bv_s, i32_nl, i32_n, i32_add, i32_sub, i32_mul, i32_neg, i32_ca, i32_cm, i32_cs, i32_cn, i32_le, i32_lt, i32_eq, i32_cl, Int.toNat_natCast, if_pos, if_neg, ite_true, ite_false, not_true_eq_false, not_false_eq_true, Nat.add_zero, Nat.zero_add, Nat.add_sub_cancel, ck_p, cko_si, cka_si, cko_sl, cka_sl, gi_e, gi_x, gl_e, gl_x, gr_si, gl_si, gi_sl, gr_sl, cko_c hm.k (show 3 ∈ [3] by decide), dr_c hm.r2, dr_c hm.r9, dr_c hm.r10, dr_c hm.r11, dr_c hm.r12, dr_c hm.r13, dr_c hm.r14, dr_c hm.r15, dr_c hm.r16, dr_c hm.r21, dr_c hm.r23, dr_c hm.r24, dr_c hm.r27, dr_c hm.r28, dr_c hm.r30, dr_c hm.r33, dr_c hm.r34, dr_c hm.r36, dr_c hm.r37, dr_c hm.r38, dr_c hm.r41, dr_c hm.r43, dr_c hm.r44, dr_c hm.r45, dr_c hm.r46, dr_c hm.r47, dr_c hm.r50, dr_c hm.r51, dr_c hm.r52, cka_i hm.k162 hm.l162, cka_i hm.k163 hm.l163, cka_i hm.k164 hm.l164, cka_i hm.k165 hm.l165, cka_i hm.k166 hm.l166, cka_i hm.k167 hm.l167, cka_i hm.k168 hm.l168, cka_i hm.k169 hm.l169, cka_i hm.k170 hm.l170, cka_i hm.k171 hm.l171, cka_i hm.k172 hm.l172, cka_i hm.k173 hm.l173, cka_i hm.k174 hm.l174, cka_i hm.k175 hm.l175, cka_i hm.k176 hm.l176, cka_i hm.k177 hm.l177, cka_i hm.k178 hm.l178, cka_i hm.k179 hm.l179, cka_i hm.k180 hm.l180, cka_i hm.k181 hm.l181, cka_i hm.k182 hm.l182, cka_i hm.k183 hm.l183, cka_i hm.k184 hm.l184, cka_i hm.k185 hm.l185, cka_i hm.k186 hm.l186, cka_i hm.k187 hm.l187, cka_i hm.k188 hm.l188, cka_i hm.k189 hm.l189, cka_i hm.k190 hm.l190, X3_inI, X1_inI, i32_64, b01_i0, b01_i1, i64_m1, i64_0, i64_1, i64_2, i64_3, i64_8, i64_9, i64_10, i64_12, i64_15, i64_18, i64_20, i64_24, i64_30, i64_39, i64_48, i64_57, i64_60, i64_99, i64_100, i64_999, i64_99999, h8])
    refine X3_keep38 (i := k) (by exact hm) (by exact hn) (by omega) (fun σ1 F hc => ?_)
    have FM1 : Fr (KM [0, 10]) 0 0 σ σ1 := (((Fr.rf.wm 0 rfl (by decide)).wm 10 rfl (by decide)).wm 10 rfl (by decide)).tr0 (F.mono (fun b j q e => q (by rw [e.1, show reg 190 j = 10 from rfl]; decide)))
    rw [← hQ]
    unfold aKeep nKeep
    rw [if_pos c, if_pos c]
    refine ok_some ⟨rfl, h.uPgs FM1 (fun j hj => ?_), FM1.rsm (by decide)⟩
    have e8 : gi σ1 188 j = if j = k then 1 else gi σ 188 j := by
      rw [F.i (by show 188 < mn σ; omega) (fun q => by omega)]
      by_cases e : j = k
      · rw [if_pos e]; subst e; simp (disch := omega) only [cko_si, cka_si, cko_sl, cka_sl, gi_e, gi_x, gl_e, gl_x, gr_si, gl_si, gi_sl, gr_sl]; rfl
      · rw [if_neg e]; simp (disch := omega) only [cko_si, cka_si, cko_sl, cka_sl, gi_e, gi_x, gl_e, gl_x, gr_si, gl_si, gi_sl, gr_sl]
    have e9 : gi σ1 189 j = if j = k then S.mes.2.2 else gi σ 189 j := by
      rw [F.i (by show 189 < mn σ; omega) (fun q => by omega)]
      by_cases e : j = k
      · rw [if_pos e]; subst e; simp (disch := omega) only [cko_si, cka_si, cko_sl, cka_sl, gi_e, gi_x, gl_e, gl_x, gr_si, gl_si, gi_sl, gr_sl]
      · rw [if_neg e]; simp (disch := omega) only [cko_si, cka_si, cko_sl, cka_sl, gi_e, gi_x, gl_e, gl_x, gr_si, gl_si, gi_sl, gr_sl]
    rw [Int.toNat_natCast]
    unfold setP
    by_cases e : j = k
    · rw [if_pos e] at e8 e9 ⊢
      refine ⟨e8, e9, RowIs.eq h.now g.now.len (fun m hm => ?_)⟩
      rw [e]
      rw [hc m hm]
      simp (disch := omega) only [cko_si, cka_si, cko_sl, cka_sl, gi_e, gi_x, gl_e, gl_x, gr_si, gl_si, gi_sl, gr_sl, Nat.zero_add]
    · rw [if_neg e] at e8 e9 ⊢
      have hp := h.pgs j hj
      revert hp
      cases hs : S.pgs j with
      | none => intro hp; rw [e8]; exact hp
      | some q =>
        intro hp
        refine ⟨by rw [e8]; exact hp.1, by rw [e9]; exact hp.2.1, RowIs.eq hp.2.2 (g.pgs j q hs).len (fun m hm => ?_)⟩
        rw [F.i (by show 190 < mn σ; omega) (fun q => by omega)]
        simp (disch := omega) only [cko_si, cka_si, cko_sl, cka_sl, gi_e, gi_x, gl_e, gl_x, gr_si, gl_si, gi_sl, gr_sl]
  · (try simp (disch := omega) only [vl_s, bp_s, bd_s, bv_s, i32_nl, i32_n, i32_add, i32_sub, i32_mul, i32_neg, i32_ca, i32_cm, i32_cs, i32_cn, i32_le, i32_lt, i32_eq, i32_cl, Int.toNat_natCast, if_pos, if_neg, ite_true, ite_false, not_true_eq_false, not_false_eq_true, Nat.add_zero, Nat.zero_add, Nat.add_sub_cancel, ck_p, cko_si, cka_si, cko_sl, cka_sl, gi_e, gi_x, gl_e, gl_x, gr_si, gl_si, gi_sl, gr_sl, cko_c hm.k (show 3 ∈ [3] by decide), dr_c hm.r2, dr_c hm.r9, dr_c hm.r10, dr_c hm.r11, dr_c hm.r12, dr_c hm.r13, dr_c hm.r14, dr_c hm.r15, dr_c hm.r16, dr_c hm.r21, dr_c hm.r23, dr_c hm.r24, dr_c hm.r27, dr_c hm.r28, dr_c hm.r30, dr_c hm.r33, dr_c hm.r34, dr_c hm.r36, dr_c hm.r37, dr_c hm.r38, dr_c hm.r41, dr_c hm.r43, dr_c hm.r44, dr_c hm.r45, dr_c hm.r46, dr_c hm.r47, dr_c hm.r50, dr_c hm.r51, dr_c hm.r52, cka_i hm.k162 hm.l162, cka_i hm.k163 hm.l163, cka_i hm.k164 hm.l164, cka_i hm.k165 hm.l165, cka_i hm.k166 hm.l166, cka_i hm.k167 hm.l167, cka_i hm.k168 hm.l168, cka_i hm.k169 hm.l169, cka_i hm.k170 hm.l170, cka_i hm.k171 hm.l171, cka_i hm.k172 hm.l172, cka_i hm.k173 hm.l173, cka_i hm.k174 hm.l174, cka_i hm.k175 hm.l175, cka_i hm.k176 hm.l176, cka_i hm.k177 hm.l177, cka_i hm.k178 hm.l178, cka_i hm.k179 hm.l179, cka_i hm.k180 hm.l180, cka_i hm.k181 hm.l181, cka_i hm.k182 hm.l182, cka_i hm.k183 hm.l183, cka_i hm.k184 hm.l184, cka_i hm.k185 hm.l185, cka_i hm.k186 hm.l186, cka_i hm.k187 hm.l187, cka_i hm.k188 hm.l188, cka_i hm.k189 hm.l189, cka_i hm.k190 hm.l190, X3_inI, X1_inI, i32_64, b01_i0, b01_i1, i64_m1, i64_0, i64_1, i64_2, i64_3, i64_8, i64_9, i64_10, i64_12, i64_15, i64_18, i64_20, i64_24, i64_30, i64_39, i64_48, i64_57, i64_60, i64_99, i64_100, i64_999, i64_99999])
    rw [← hQ]
    unfold aKeep nKeep
    rw [if_neg c, if_neg c]
    exact ok_some ⟨rfl, M_thrown h _, FM_thrown⟩
def aAgain (S : St) (i : Int) : Int32 := if 0 ≤ i ∧ i ≤ 2 then (match S.pgs i.toNat with
  | none => 0
  | some q => if q.2.2 = S.mes.2.2 then 1 else 0) else 0
def nAgain (S : St) (i : Int) : St := if 0 ≤ i ∧ i ≤ 2 then (match S.pgs i.toNat with
  | none => S
  | some q => if q.2.2 = S.mes.2.2 then (S.wNow q.2.1).wUnd [] else S) else S
theorem M_again {S : St} {σ : vMem} {B i : Int} (h : RM S σ) (g : gSt B S) (h1 : -2147483648 ≤ i) (h2 : i < 2147483648) : ok (f_X3_again σ 161 (i32 i)) (fun r => r.1 = aAgain S i ∧ RM (nAgain S i) r.2 ∧ FM σ r.2) := by
  have hm := h.ml
  have hn := h.mn
  have h8 := h.mes.2.1
  generalize hQ : (fun r : Int32 × vMem => r.1 = aAgain S i ∧ RM (nAgain S i) r.2 ∧ FM σ r.2) = Q
  unfold f_X3_again
  by_cases c : 0 ≤ i ∧ i ≤ 2
  · obtain ⟨k, rfl⟩ : ∃ k : Nat, i = k := ⟨i.toNat, by omega⟩
    have hp := h.pgs k (by omega)
    revert hp
    cases hs : S.pgs k with
    | none =>
      intro hp
      have hp : gi σ 188 k = i32 ((0 : Nat) : Int) := hp
      (try simp (disch := omega) only [vl_s, bp_s, bd_s, bv_s, i32_nl, i32_n, i32_add, i32_sub, i32_mul, i32_neg, i32_ca, i32_cm, i32_cs, i32_cn, i32_le, i32_lt, i32_eq, i32_cl, Int.toNat_natCast, if_pos, if_neg, ite_true, ite_false, not_true_eq_false, not_false_eq_true, Nat.add_zero, Nat.zero_add, Nat.add_sub_cancel, ck_p, cko_si, cka_si, cko_sl, cka_sl, gi_e, gi_x, gl_e, gl_x, gr_si, gl_si, gi_sl, gr_sl, cko_c hm.k (show 3 ∈ [3] by decide), dr_c hm.r2, dr_c hm.r9, dr_c hm.r10, dr_c hm.r11, dr_c hm.r12, dr_c hm.r13, dr_c hm.r14, dr_c hm.r15, dr_c hm.r16, dr_c hm.r21, dr_c hm.r23, dr_c hm.r24, dr_c hm.r27, dr_c hm.r28, dr_c hm.r30, dr_c hm.r33, dr_c hm.r34, dr_c hm.r36, dr_c hm.r37, dr_c hm.r38, dr_c hm.r41, dr_c hm.r43, dr_c hm.r44, dr_c hm.r45, dr_c hm.r46, dr_c hm.r47, dr_c hm.r50, dr_c hm.r51, dr_c hm.r52, cka_i hm.k162 hm.l162, cka_i hm.k163 hm.l163, cka_i hm.k164 hm.l164, cka_i hm.k165 hm.l165, cka_i hm.k166 hm.l166, cka_i hm.k167 hm.l167, cka_i hm.k168 hm.l168, cka_i hm.k169 hm.l169, cka_i hm.k170 hm.l170, cka_i hm.k171 hm.l171, cka_i hm.k172 hm.l172, cka_i hm.k173 hm.l173, cka_i hm.k174 hm.l174, cka_i hm.k175 hm.l175, cka_i hm.k176 hm.l176, cka_i hm.k177 hm.l177, cka_i hm.k178 hm.l178, cka_i hm.k179 hm.l179, cka_i hm.k180 hm.l180, cka_i hm.k181 hm.l181, cka_i hm.k182 hm.l182, cka_i hm.k183 hm.l183, cka_i hm.k184 hm.l184, cka_i hm.k185 hm.l185, cka_i hm.k186 hm.l186, cka_i hm.k187 hm.l187, cka_i hm.k188 hm.l188, cka_i hm.k189 hm.l189, cka_i hm.k190 hm.l190, X3_inI, X1_inI, i32_64, b01_i0, b01_i1, i64_m1, i64_0, i64_1, i64_2, i64_3, i64_8, i64_9, i64_10, i64_12, i64_15, i64_18, i64_20, i64_24, i64_30, i64_39, i64_48, i64_57, i64_60, i64_99, i64_100, i64_999, i64_99999, h8, hp])
      rw [← hQ]
      unfold aAgain nAgain
      rw [if_pos c, if_pos c, Int.toNat_natCast, hs]
      exact ok_some ⟨rfl, M_thrown h _, FM_thrown⟩
    | some q =>
      rintro ⟨p1, p2, p3⟩
      have p1 : gi σ 188 k = i32 ((1 : Nat) : Int) := p1
      have gq := g.pgs k q hs
      by_cases e : q.2.2 = S.mes.2.2
      · (try simp (disch := omega) only [vl_s, bp_s, bd_s, bv_s, i32_nl, i32_n, i32_add, i32_sub, i32_mul, i32_neg, i32_ca, i32_cm, i32_cs, i32_cn, i32_le, i32_lt, i32_eq, i32_cl, Int.toNat_natCast, if_pos, if_neg, ite_true, ite_false, not_true_eq_false, not_false_eq_true, Nat.add_zero, Nat.zero_add, Nat.add_sub_cancel, ck_p, cko_si, cka_si, cko_sl, cka_sl, gi_e, gi_x, gl_e, gl_x, gr_si, gl_si, gi_sl, gr_sl, cko_c hm.k (show 3 ∈ [3] by decide), dr_c hm.r2, dr_c hm.r9, dr_c hm.r10, dr_c hm.r11, dr_c hm.r12, dr_c hm.r13, dr_c hm.r14, dr_c hm.r15, dr_c hm.r16, dr_c hm.r21, dr_c hm.r23, dr_c hm.r24, dr_c hm.r27, dr_c hm.r28, dr_c hm.r30, dr_c hm.r33, dr_c hm.r34, dr_c hm.r36, dr_c hm.r37, dr_c hm.r38, dr_c hm.r41, dr_c hm.r43, dr_c hm.r44, dr_c hm.r45, dr_c hm.r46, dr_c hm.r47, dr_c hm.r50, dr_c hm.r51, dr_c hm.r52, cka_i hm.k162 hm.l162, cka_i hm.k163 hm.l163, cka_i hm.k164 hm.l164, cka_i hm.k165 hm.l165, cka_i hm.k166 hm.l166, cka_i hm.k167 hm.l167, cka_i hm.k168 hm.l168, cka_i hm.k169 hm.l169, cka_i hm.k170 hm.l170, cka_i hm.k171 hm.l171, cka_i hm.k172 hm.l172, cka_i hm.k173 hm.l173, cka_i hm.k174 hm.l174, cka_i hm.k175 hm.l175, cka_i hm.k176 hm.l176, cka_i hm.k177 hm.l177, cka_i hm.k178 hm.l178, cka_i hm.k179 hm.l179, cka_i hm.k180 hm.l180, cka_i hm.k181 hm.l181, cka_i hm.k182 hm.l182, cka_i hm.k183 hm.l183, cka_i hm.k184 hm.l184, cka_i hm.k185 hm.l185, cka_i hm.k186 hm.l186, cka_i hm.k187 hm.l187, cka_i hm.k188 hm.l188, cka_i hm.k189 hm.l189, cka_i hm.k190 hm.l190, X3_inI, X1_inI, i32_64, b01_i0, b01_i1, i64_m1, i64_0, i64_1, i64_2, i64_3, i64_8, i64_9, i64_10, i64_12, i64_15, i64_18, i64_20, i64_24, i64_30, i64_39, i64_48, i64_57, i64_60, i64_99, i64_100, i64_999, i64_99999, h8, p1, p2, e])
        refine X3_again43 (i := k) (by exact hm) (by exact hn) (by omega) (fun σ1 F hc => ?_)
        have FM1 : Fr (KM [0, 4]) 0 0 σ σ1 := (Fr.rf.wm 0 rfl (by decide)).tr0 (F.mono (fun b j q e => q (by rw [e.1, show reg 168 j = 4 from rfl]; decide)))
        have hm1 := (ML.fr h.lay FM1 (by decide)).1
        (try simp (disch := omega) only [vl_s, bp_s, bd_s, bv_s, i32_nl, i32_n, i32_add, i32_sub, i32_mul, i32_neg, i32_ca, i32_cm, i32_cs, i32_cn, i32_le, i32_lt, i32_eq, i32_cl, Int.toNat_natCast, if_pos, if_neg, ite_true, ite_false, not_true_eq_false, not_false_eq_true, Nat.add_zero, Nat.zero_add, Nat.add_sub_cancel, ck_p, cko_si, cka_si, cko_sl, cka_sl, gi_e, gi_x, gl_e, gl_x, gr_si, gl_si, gi_sl, gr_sl, cko_c hm1.k (show 3 ∈ [3] by decide), dr_c hm1.r2, dr_c hm1.r9, dr_c hm1.r10, dr_c hm1.r11, dr_c hm1.r12, dr_c hm1.r13, dr_c hm1.r14, dr_c hm1.r15, dr_c hm1.r16, dr_c hm1.r21, dr_c hm1.r23, dr_c hm1.r24, dr_c hm1.r27, dr_c hm1.r28, dr_c hm1.r30, dr_c hm1.r33, dr_c hm1.r34, dr_c hm1.r36, dr_c hm1.r37, dr_c hm1.r38, dr_c hm1.r41, dr_c hm1.r43, dr_c hm1.r44, dr_c hm1.r45, dr_c hm1.r46, dr_c hm1.r47, dr_c hm1.r50, dr_c hm1.r51, dr_c hm1.r52, cka_i hm1.k162 hm1.l162, cka_i hm1.k163 hm1.l163, cka_i hm1.k164 hm1.l164, cka_i hm1.k165 hm1.l165, cka_i hm1.k166 hm1.l166, cka_i hm1.k167 hm1.l167, cka_i hm1.k168 hm1.l168, cka_i hm1.k169 hm1.l169, cka_i hm1.k170 hm1.l170, cka_i hm1.k171 hm1.l171, cka_i hm1.k172 hm1.l172, cka_i hm1.k173 hm1.l173, cka_i hm1.k174 hm1.l174, cka_i hm1.k175 hm1.l175, cka_i hm1.k176 hm1.l176, cka_i hm1.k177 hm1.l177, cka_i hm1.k178 hm1.l178, cka_i hm1.k179 hm1.l179, cka_i hm1.k180 hm1.l180, cka_i hm1.k181 hm1.l181, cka_i hm1.k182 hm1.l182, cka_i hm1.k183 hm1.l183, cka_i hm1.k184 hm1.l184, cka_i hm1.k185 hm1.l185, cka_i hm1.k186 hm1.l186, cka_i hm1.k187 hm1.l187, cka_i hm1.k188 hm1.l188, cka_i hm1.k189 hm1.l189, cka_i hm1.k190 hm1.l190])
        rw [← hQ]
        unfold aAgain nAgain
        rw [if_pos c, if_pos c, Int.toNat_natCast, hs]
        show ok _ (fun r : Int32 × vMem => r.1 = (if q.2.2 = S.mes.2.2 then 1 else 0) ∧ RM (if q.2.2 = S.mes.2.2 then (S.wNow q.2.1).wUnd [] else S) r.2 ∧ FM σ r.2)
        rw [if_pos e, if_pos e]
        have q1 : RM (S.wNow q.2.1) σ1 := h.uNow FM1 (RowIs.eq p3 gq.len (fun j hj => by
          have := hc j hj
          rw [Nat.zero_add] at this
          rw [this]
          simp (disch := omega) only [cko_si, cka_si, cko_sl, cka_sl, gi_e, gi_x, gl_e, gl_x, gr_si, gl_si, gi_sl, gr_sl]))
        exact ok_some ⟨rfl, q1.uUnd (Fr.rf.wm 5 rfl (by decide)) ⟨gi_e ⟨rfl, rfl⟩, fun k V hk => by simp at hk⟩, (FM1.rsm (by decide)).tr0 (Fr.rf.wm 5 rfl (by decide))⟩
      · (try simp (disch := omega) only [vl_s, bp_s, bd_s, bv_s, i32_nl, i32_n, i32_add, i32_sub, i32_mul, i32_neg, i32_ca, i32_cm, i32_cs, i32_cn, i32_le, i32_lt, i32_eq, i32_cl, Int.toNat_natCast, if_pos, if_neg, ite_true, ite_false, not_true_eq_false, not_false_eq_true, Nat.add_zero, Nat.zero_add, Nat.add_sub_cancel, ck_p, cko_si, cka_si, cko_sl, cka_sl, gi_e, gi_x, gl_e, gl_x, gr_si, gl_si, gi_sl, gr_sl, cko_c hm.k (show 3 ∈ [3] by decide), dr_c hm.r2, dr_c hm.r9, dr_c hm.r10, dr_c hm.r11, dr_c hm.r12, dr_c hm.r13, dr_c hm.r14, dr_c hm.r15, dr_c hm.r16, dr_c hm.r21, dr_c hm.r23, dr_c hm.r24, dr_c hm.r27, dr_c hm.r28, dr_c hm.r30, dr_c hm.r33, dr_c hm.r34, dr_c hm.r36, dr_c hm.r37, dr_c hm.r38, dr_c hm.r41, dr_c hm.r43, dr_c hm.r44, dr_c hm.r45, dr_c hm.r46, dr_c hm.r47, dr_c hm.r50, dr_c hm.r51, dr_c hm.r52, cka_i hm.k162 hm.l162, cka_i hm.k163 hm.l163, cka_i hm.k164 hm.l164, cka_i hm.k165 hm.l165, cka_i hm.k166 hm.l166, cka_i hm.k167 hm.l167, cka_i hm.k168 hm.l168, cka_i hm.k169 hm.l169, cka_i hm.k170 hm.l170, cka_i hm.k171 hm.l171, cka_i hm.k172 hm.l172, cka_i hm.k173 hm.l173, cka_i hm.k174 hm.l174, cka_i hm.k175 hm.l175, cka_i hm.k176 hm.l176, cka_i hm.k177 hm.l177, cka_i hm.k178 hm.l178, cka_i hm.k179 hm.l179, cka_i hm.k180 hm.l180, cka_i hm.k181 hm.l181, cka_i hm.k182 hm.l182, cka_i hm.k183 hm.l183, cka_i hm.k184 hm.l184, cka_i hm.k185 hm.l185, cka_i hm.k186 hm.l186, cka_i hm.k187 hm.l187, cka_i hm.k188 hm.l188, cka_i hm.k189 hm.l189, cka_i hm.k190 hm.l190, X3_inI, X1_inI, i32_64, b01_i0, b01_i1, i64_m1, i64_0, i64_1, i64_2, i64_3, i64_8, i64_9, i64_10, i64_12, i64_15, i64_18, i64_20, i64_24, i64_30, i64_39, i64_48, i64_57, i64_60, i64_99, i64_100, i64_999, i64_99999, h8, p1, p2, e])
        rw [← hQ]
        unfold aAgain nAgain
        rw [if_pos c, if_pos c, Int.toNat_natCast, hs]
        show ok _ (fun r : Int32 × vMem => r.1 = (if q.2.2 = S.mes.2.2 then 1 else 0) ∧ RM (if q.2.2 = S.mes.2.2 then (S.wNow q.2.1).wUnd [] else S) r.2 ∧ FM σ r.2)
        rw [if_neg e, if_neg e]
        exact ok_some ⟨rfl, M_thrown h _, FM_thrown⟩
  · (try simp (disch := omega) only [vl_s, bp_s, bd_s, bv_s, i32_nl, i32_n, i32_add, i32_sub, i32_mul, i32_neg, i32_ca, i32_cm, i32_cs, i32_cn, i32_le, i32_lt, i32_eq, i32_cl, Int.toNat_natCast, if_pos, if_neg, ite_true, ite_false, not_true_eq_false, not_false_eq_true, Nat.add_zero, Nat.zero_add, Nat.add_sub_cancel, ck_p, cko_si, cka_si, cko_sl, cka_sl, gi_e, gi_x, gl_e, gl_x, gr_si, gl_si, gi_sl, gr_sl, cko_c hm.k (show 3 ∈ [3] by decide), dr_c hm.r2, dr_c hm.r9, dr_c hm.r10, dr_c hm.r11, dr_c hm.r12, dr_c hm.r13, dr_c hm.r14, dr_c hm.r15, dr_c hm.r16, dr_c hm.r21, dr_c hm.r23, dr_c hm.r24, dr_c hm.r27, dr_c hm.r28, dr_c hm.r30, dr_c hm.r33, dr_c hm.r34, dr_c hm.r36, dr_c hm.r37, dr_c hm.r38, dr_c hm.r41, dr_c hm.r43, dr_c hm.r44, dr_c hm.r45, dr_c hm.r46, dr_c hm.r47, dr_c hm.r50, dr_c hm.r51, dr_c hm.r52, cka_i hm.k162 hm.l162, cka_i hm.k163 hm.l163, cka_i hm.k164 hm.l164, cka_i hm.k165 hm.l165, cka_i hm.k166 hm.l166, cka_i hm.k167 hm.l167, cka_i hm.k168 hm.l168, cka_i hm.k169 hm.l169, cka_i hm.k170 hm.l170, cka_i hm.k171 hm.l171, cka_i hm.k172 hm.l172, cka_i hm.k173 hm.l173, cka_i hm.k174 hm.l174, cka_i hm.k175 hm.l175, cka_i hm.k176 hm.l176, cka_i hm.k177 hm.l177, cka_i hm.k178 hm.l178, cka_i hm.k179 hm.l179, cka_i hm.k180 hm.l180, cka_i hm.k181 hm.l181, cka_i hm.k182 hm.l182, cka_i hm.k183 hm.l183, cka_i hm.k184 hm.l184, cka_i hm.k185 hm.l185, cka_i hm.k186 hm.l186, cka_i hm.k187 hm.l187, cka_i hm.k188 hm.l188, cka_i hm.k189 hm.l189, cka_i hm.k190 hm.l190, X3_inI, X1_inI, i32_64, b01_i0, b01_i1, i64_m1, i64_0, i64_1, i64_2, i64_3, i64_8, i64_9, i64_10, i64_12, i64_15, i64_18, i64_20, i64_24, i64_30, i64_39, i64_48, i64_57, i64_60, i64_99, i64_100, i64_999, i64_99999])
    rw [← hQ]
    unfold aAgain nAgain
    rw [if_neg c, if_neg c]
    exact ok_some ⟨rfl, M_thrown h _, FM_thrown⟩
theorem goN_B {r : Rck} {e : Mes} {W : Wt} {B : Int} (gE : gMes e) (g : gW B W) (n : Nat) (hB : B ≤ 890000) (hn : n ≤ 1000) : gW 900000 (goN r e W n) := (goN_g gE g n).up (by omega)
/-- some steps of what is tried -/
theorem M_lane29 {S : St} {σ : vMem} {B : Int} {n : Nat} {K : vMem → Option (Int32 × vMem)} {Q : Int32 × vMem → Prop} (h : RM S σ) (g : gSt B S) (hB : B ≤ 800000) (hn : n ≤ 60) (hr : RowIs S.now (gi σ 169)) (h31 : gi σ 161 31 = i32 ((0 : Nat) : Int)) (hK : ∀ σ', RM S σ' → Fr (KM [0]) 0 0 σ σ' → RowIs (goN S.rck S.mes S.now n) (gi σ' 169) → gi σ' 161 31 = (goN S.rck S.mes S.now n).hits - S.now.hits → ok (K σ') Q) : ok (f_X3_lane_29 161 (i32 n) K FU σ (i32 ((0 : Nat) : Int))) Q := by
  refine loop2 (F := f_X3_lane_29 161 (i32 n) K) n (fun k σ1 v => v = i32 k ∧ RM S σ1 ∧ Fr (KM [0]) 0 0 σ σ1 ∧ RowIs (goN S.rck S.mes S.now k) (gi σ1 169) ∧ gi σ1 161 31 = (goN S.rck S.mes S.now k).hits - S.now.hits) ?_ FU 0 σ _ (by omega) ⟨rfl, h, Fr.rf, hr, ?_⟩ (by unfold FU; omega)
  · rintro m k σ1 v hk2 ⟨rfl, h1, F1, a0, a1⟩ IH
    have hm := h1.ml
    rw [f_X3_lane_29.eq_2]
    by_cases hc : k < n
    · (try simp (disch := omega) only [vl_s, bp_s, bd_s, bv_s, i32_nl, i32_n, i32_add, i32_sub, i32_mul, i32_neg, i32_ca, i32_cm, i32_cs, i32_cn, i32_le, i32_lt, i32_eq, i32_cl, Int.toNat_natCast, if_pos, if_neg, ite_true, ite_false, not_true_eq_false, not_false_eq_true, Nat.add_zero, Nat.zero_add, Nat.add_sub_cancel, ck_p, cko_si, cka_si, cko_sl, cka_sl, gi_e, gi_x, gl_e, gl_x, gr_si, gl_si, gi_sl, gr_sl, cko_c hm.k (show 3 ∈ [3] by decide), dr_c hm.r2, dr_c hm.r9, dr_c hm.r10, dr_c hm.r11, dr_c hm.r12, dr_c hm.r13, dr_c hm.r14, dr_c hm.r15, dr_c hm.r16, dr_c hm.r21, dr_c hm.r23, dr_c hm.r24, dr_c hm.r27, dr_c hm.r28, dr_c hm.r30, dr_c hm.r33, dr_c hm.r34, dr_c hm.r36, dr_c hm.r37, dr_c hm.r38, dr_c hm.r41, dr_c hm.r43, dr_c hm.r44, dr_c hm.r45, dr_c hm.r46, dr_c hm.r47, dr_c hm.r50, dr_c hm.r51, dr_c hm.r52, cka_i hm.k162 hm.l162, cka_i hm.k163 hm.l163, cka_i hm.k164 hm.l164, cka_i hm.k165 hm.l165, cka_i hm.k166 hm.l166, cka_i hm.k167 hm.l167, cka_i hm.k168 hm.l168, cka_i hm.k169 hm.l169, cka_i hm.k170 hm.l170, cka_i hm.k171 hm.l171, cka_i hm.k172 hm.l172, cka_i hm.k173 hm.l173, cka_i hm.k174 hm.l174, cka_i hm.k175 hm.l175, cka_i hm.k176 hm.l176, cka_i hm.k177 hm.l177, cka_i hm.k178 hm.l178, cka_i hm.k179 hm.l179, cka_i hm.k180 hm.l180, cka_i hm.k181 hm.l181, cka_i hm.k182 hm.l182, cka_i hm.k183 hm.l183, cka_i hm.k184 hm.l184, cka_i hm.k185 hm.l185, cka_i hm.k186 hm.l186, cka_i hm.k187 hm.l187, cka_i hm.k188 hm.l188, cka_i hm.k189 hm.l189, cka_i hm.k190 hm.l190])
      refine ok_bv (X3_stepGoes h1.lay h1.rck g.rck h1.mes g.mes (Or.inr rfl) a0 (goN_B g.mes g.now k (by omega) (by omega)) (by omega)) ?_
      rintro σ2 ⟨b1, b2, b3, F2⟩
      have F2' : Fr (KM [0]) 0 0 σ1 σ2 := F2.mono Krow_9
      refine IH hc _ _ ⟨rfl, h1.u0 F2', F1.tr0 F2', b1, ?_⟩
      rw [b2, a1]
      exact (i32_acc _ _ _).symm
    · have : k = n := by omega
      subst this
      (try simp (disch := omega) only [vl_s, bp_s, bd_s, bv_s, i32_nl, i32_n, i32_add, i32_sub, i32_mul, i32_neg, i32_ca, i32_cm, i32_cs, i32_cn, i32_le, i32_lt, i32_eq, i32_cl, Int.toNat_natCast, if_pos, if_neg, ite_true, ite_false, not_true_eq_false, not_false_eq_true, Nat.add_zero, Nat.zero_add, Nat.add_sub_cancel, ck_p, cko_si, cka_si, cko_sl, cka_sl, gi_e, gi_x, gl_e, gl_x, gr_si, gl_si, gi_sl, gr_sl])
      exact hK σ1 h1 F1 a0 a1
  · rw [h31]
    show _ = S.now.hits - S.now.hits
    rw [Int32.sub_self]
    rfl
def aLane (S : St) (n : Int) : Int := if 0 ≤ n ∧ n ≤ 60 then (goN S.rck S.mes S.now n.toNat).lane else -1
def nLane (S : St) (n : Int) : St := if 0 ≤ n ∧ n ≤ 60 then rowA (row0 S) (Int32.toInt64 ((goN S.rck S.mes S.now n.toNat).hits - S.now.hits)) else S
theorem M_lane {S : St} {σ : vMem} {B : Int} {n : Int} (h : RM S σ) (g : gSt B S) (hB : B ≤ 800000) (h1 : -2147483648 ≤ n) (h2 : n < 2147483648) : ok (f_X3_lane σ 161 (i32 n)) (fun r => r.1 = i32 (aLane S n) ∧ RM (nLane S n) r.2 ∧ FM σ r.2) := by
  have hm := h.ml
  generalize hQ : (fun r : Int32 × vMem => r.1 = i32 (aLane S n) ∧ RM (nLane S n) r.2 ∧ FM σ r.2) = Q
  unfold f_X3_lane
  by_cases hc : 0 ≤ n ∧ n ≤ 60
  · obtain ⟨k, rfl⟩ : ∃ k : Nat, n = k := ⟨n.toNat, by omega⟩
    (try simp (disch := omega) only [vl_s, bp_s, bd_s, bv_s, i32_nl, i32_n, i32_add, i32_sub, i32_mul, i32_neg, i32_ca, i32_cm, i32_cs, i32_cn, i32_le, i32_lt, i32_eq, i32_cl, Int.toNat_natCast, if_pos, if_neg, ite_true, ite_false, not_true_eq_false, not_false_eq_true, Nat.add_zero, Nat.zero_add, Nat.add_sub_cancel, ck_p, cko_si, cka_si, cko_sl, cka_sl, gi_e, gi_x, gl_e, gl_x, gr_si, gl_si, gi_sl, gr_sl, cko_c hm.k (show 3 ∈ [3] by decide), dr_c hm.r2, dr_c hm.r9, dr_c hm.r10, dr_c hm.r11, dr_c hm.r12, dr_c hm.r13, dr_c hm.r14, dr_c hm.r15, dr_c hm.r16, dr_c hm.r21, dr_c hm.r23, dr_c hm.r24, dr_c hm.r27, dr_c hm.r28, dr_c hm.r30, dr_c hm.r33, dr_c hm.r34, dr_c hm.r36, dr_c hm.r37, dr_c hm.r38, dr_c hm.r41, dr_c hm.r43, dr_c hm.r44, dr_c hm.r45, dr_c hm.r46, dr_c hm.r47, dr_c hm.r50, dr_c hm.r51, dr_c hm.r52, cka_i hm.k162 hm.l162, cka_i hm.k163 hm.l163, cka_i hm.k164 hm.l164, cka_i hm.k165 hm.l165, cka_i hm.k166 hm.l166, cka_i hm.k167 hm.l167, cka_i hm.k168 hm.l168, cka_i hm.k169 hm.l169, cka_i hm.k170 hm.l170, cka_i hm.k171 hm.l171, cka_i hm.k172 hm.l172, cka_i hm.k173 hm.l173, cka_i hm.k174 hm.l174, cka_i hm.k175 hm.l175, cka_i hm.k176 hm.l176, cka_i hm.k177 hm.l177, cka_i hm.k178 hm.l178, cka_i hm.k179 hm.l179, cka_i hm.k180 hm.l180, cka_i hm.k181 hm.l181, cka_i hm.k182 hm.l182, cka_i hm.k183 hm.l183, cka_i hm.k184 hm.l184, cka_i hm.k185 hm.l185, cka_i hm.k186 hm.l186, cka_i hm.k187 hm.l187, cka_i hm.k188 hm.l188, cka_i hm.k189 hm.l189, cka_i hm.k190 hm.l190, X3_inI, X1_inI, i32_64, b01_i0, b01_i1, i64_m1, i64_0, i64_1, i64_2, i64_3, i64_8, i64_9, i64_10, i64_12, i64_15, i64_18, i64_20, i64_24, i64_30, i64_39, i64_48, i64_57, i64_60, i64_99, i64_100, i64_999, i64_99999])
    have h0 := M_thrown h (i32 ((0 : Nat) : Int))
    refine ok_bv (X3_puts h0.ml h0.mn h0.now g.now.len) ?_
    rintro σ1 ⟨w1, F1⟩
    have h1 := h0.u0 F1
    have hm1 := h1.ml
    (try simp (disch := omega) only [vl_s, bp_s, bd_s, bv_s, i32_nl, i32_n, i32_add, i32_sub, i32_mul, i32_neg, i32_ca, i32_cm, i32_cs, i32_cn, i32_le, i32_lt, i32_eq, i32_cl, Int.toNat_natCast, if_pos, if_neg, ite_true, ite_false, not_true_eq_false, not_false_eq_true, Nat.add_zero, Nat.zero_add, Nat.add_sub_cancel, ck_p, cko_si, cka_si, cko_sl, cka_sl, gi_e, gi_x, gl_e, gl_x, gr_si, gl_si, gi_sl, gr_sl, cko_c hm1.k (show 3 ∈ [3] by decide), dr_c hm1.r2, dr_c hm1.r9, dr_c hm1.r10, dr_c hm1.r11, dr_c hm1.r12, dr_c hm1.r13, dr_c hm1.r14, dr_c hm1.r15, dr_c hm1.r16, dr_c hm1.r21, dr_c hm1.r23, dr_c hm1.r24, dr_c hm1.r27, dr_c hm1.r28, dr_c hm1.r30, dr_c hm1.r33, dr_c hm1.r34, dr_c hm1.r36, dr_c hm1.r37, dr_c hm1.r38, dr_c hm1.r41, dr_c hm1.r43, dr_c hm1.r44, dr_c hm1.r45, dr_c hm1.r46, dr_c hm1.r47, dr_c hm1.r50, dr_c hm1.r51, dr_c hm1.r52, cka_i hm1.k162 hm1.l162, cka_i hm1.k163 hm1.l163, cka_i hm1.k164 hm1.l164, cka_i hm1.k165 hm1.l165, cka_i hm1.k166 hm1.l166, cka_i hm1.k167 hm1.l167, cka_i hm1.k168 hm1.l168, cka_i hm1.k169 hm1.l169, cka_i hm1.k170 hm1.l170, cka_i hm1.k171 hm1.l171, cka_i hm1.k172 hm1.l172, cka_i hm1.k173 hm1.l173, cka_i hm1.k174 hm1.l174, cka_i hm1.k175 hm1.l175, cka_i hm1.k176 hm1.l176, cka_i hm1.k177 hm1.l177, cka_i hm1.k178 hm1.l178, cka_i hm1.k179 hm1.l179, cka_i hm1.k180 hm1.l180, cka_i hm1.k181 hm1.l181, cka_i hm1.k182 hm1.l182, cka_i hm1.k183 hm1.l183, cka_i hm1.k184 hm1.l184, cka_i hm1.k185 hm1.l185, cka_i hm1.k186 hm1.l186, cka_i hm1.k187 hm1.l187, cka_i hm1.k188 hm1.l188, cka_i hm1.k189 hm1.l189, cka_i hm1.k190 hm1.l190, M_startsCounting h1])
    have F2 : Fr (KM [0]) 0 0 σ1 (si (si σ1 161 31 (i32 ((0 : Nat) : Int))) 161 32 (i32 ((0 : Nat) : Int))) := (Fr.rf.wm 0 rfl (by decide)).wm 0 rfl (by decide)
    have w2 : RowIs S.now (gi (si (si σ1 161 31 (i32 ((0 : Nat) : Int))) 161 32 (i32 ((0 : Nat) : Int))) 169) := w1.eq g.now.len (fun j hj => by simp (disch := omega) only [cko_si, cka_si, cko_sl, cka_sl, gi_e, gi_x, gl_e, gl_x, gr_si, gl_si, gi_sl, gr_sl])
    refine M_lane29 (h1.u0 F2) g hB (by omega) w2 (by simp (disch := omega) only [cko_si, cka_si, cko_sl, cka_sl, gi_e, gi_x, gl_e, gl_x, gr_si, gl_si, gi_sl, gr_sl]) (fun σ3 h3 F3 w3 a1 => ?_)
    have hm3 := h3.ml
    have h4 := M_row0 h3
    (try simp (disch := omega) only [vl_s, bp_s, bd_s, bv_s, i32_nl, i32_n, i32_add, i32_sub, i32_mul, i32_neg, i32_ca, i32_cm, i32_cs, i32_cn, i32_le, i32_lt, i32_eq, i32_cl, Int.toNat_natCast, if_pos, if_neg, ite_true, ite_false, not_true_eq_false, not_false_eq_true, Nat.add_zero, Nat.zero_add, Nat.add_sub_cancel, ck_p, cko_si, cka_si, cko_sl, cka_sl, gi_e, gi_x, gl_e, gl_x, gr_si, gl_si, gi_sl, gr_sl, cko_c hm3.k (show 3 ∈ [3] by decide), dr_c hm3.r2, dr_c hm3.r9, dr_c hm3.r10, dr_c hm3.r11, dr_c hm3.r12, dr_c hm3.r13, dr_c hm3.r14, dr_c hm3.r15, dr_c hm3.r16, dr_c hm3.r21, dr_c hm3.r23, dr_c hm3.r24, dr_c hm3.r27, dr_c hm3.r28, dr_c hm3.r30, dr_c hm3.r33, dr_c hm3.r34, dr_c hm3.r36, dr_c hm3.r37, dr_c hm3.r38, dr_c hm3.r41, dr_c hm3.r43, dr_c hm3.r44, dr_c hm3.r45, dr_c hm3.r46, dr_c hm3.r47, dr_c hm3.r50, dr_c hm3.r51, dr_c hm3.r52, cka_i hm3.k162 hm3.l162, cka_i hm3.k163 hm3.l163, cka_i hm3.k164 hm3.l164, cka_i hm3.k165 hm3.l165, cka_i hm3.k166 hm3.l166, cka_i hm3.k167 hm3.l167, cka_i hm3.k168 hm3.l168, cka_i hm3.k169 hm3.l169, cka_i hm3.k170 hm3.l170, cka_i hm3.k171 hm3.l171, cka_i hm3.k172 hm3.l172, cka_i hm3.k173 hm3.l173, cka_i hm3.k174 hm3.l174, cka_i hm3.k175 hm3.l175, cka_i hm3.k176 hm3.l176, cka_i hm3.k177 hm3.l177, cka_i hm3.k178 hm3.l178, cka_i hm3.k179 hm3.l179, cka_i hm3.k180 hm3.l180, cka_i hm3.k181 hm3.l181, cka_i hm3.k182 hm3.l182, cka_i hm3.k183 hm3.l183, cka_i hm3.k184 hm3.l184, cka_i hm3.k185 hm3.l185, cka_i hm3.k186 hm3.l186, cka_i hm3.k187 hm3.l187, cka_i hm3.k188 hm3.l188, cka_i hm3.k189 hm3.l189, cka_i hm3.k190 hm3.l190, a1])
    refine ok_bv (M_enters h4 (by show 0 < 40; omega) _) ?_
    rintro σ5 ⟨h5, F5⟩
    have hm5 := h5.ml
    have e1 : gi σ5 169 1 = i32 (goN S.rck S.mes S.now k).lane := by
      rw [F5.gM (t := 0) (by decide) 169 1 (by have := h4.mn; omega) rfl]
      simp (disch := omega) only [cko_si, cka_si, cko_sl, cka_sl, gi_e, gi_x, gl_e, gl_x, gr_si, gl_si, gi_sl, gr_sl]
      exact w3.2.1
    (try simp (disch := omega) only [vl_s, bp_s, bd_s, bv_s, i32_nl, i32_n, i32_add, i32_sub, i32_mul, i32_neg, i32_ca, i32_cm, i32_cs, i32_cn, i32_le, i32_lt, i32_eq, i32_cl, Int.toNat_natCast, if_pos, if_neg, ite_true, ite_false, not_true_eq_false, not_false_eq_true, Nat.add_zero, Nat.zero_add, Nat.add_sub_cancel, ck_p, cko_si, cka_si, cko_sl, cka_sl, gi_e, gi_x, gl_e, gl_x, gr_si, gl_si, gi_sl, gr_sl, cko_c hm5.k (show 3 ∈ [3] by decide), dr_c hm5.r2, dr_c hm5.r9, dr_c hm5.r10, dr_c hm5.r11, dr_c hm5.r12, dr_c hm5.r13, dr_c hm5.r14, dr_c hm5.r15, dr_c hm5.r16, dr_c hm5.r21, dr_c hm5.r23, dr_c hm5.r24, dr_c hm5.r27, dr_c hm5.r28, dr_c hm5.r30, dr_c hm5.r33, dr_c hm5.r34, dr_c hm5.r36, dr_c hm5.r37, dr_c hm5.r38, dr_c hm5.r41, dr_c hm5.r43, dr_c hm5.r44, dr_c hm5.r45, dr_c hm5.r46, dr_c hm5.r47, dr_c hm5.r50, dr_c hm5.r51, dr_c hm5.r52, cka_i hm5.k162 hm5.l162, cka_i hm5.k163 hm5.l163, cka_i hm5.k164 hm5.l164, cka_i hm5.k165 hm5.l165, cka_i hm5.k166 hm5.l166, cka_i hm5.k167 hm5.l167, cka_i hm5.k168 hm5.l168, cka_i hm5.k169 hm5.l169, cka_i hm5.k170 hm5.l170, cka_i hm5.k171 hm5.l171, cka_i hm5.k172 hm5.l172, cka_i hm5.k173 hm5.l173, cka_i hm5.k174 hm5.l174, cka_i hm5.k175 hm5.l175, cka_i hm5.k176 hm5.l176, cka_i hm5.k177 hm5.l177, cka_i hm5.k178 hm5.l178, cka_i hm5.k179 hm5.l179, cka_i hm5.k180 hm5.l180, cka_i hm5.k181 hm5.l181, cka_i hm5.k182 hm5.l182, cka_i hm5.k183 hm5.l183, cka_i hm5.k184 hm5.l184, cka_i hm5.k185 hm5.l185, cka_i hm5.k186 hm5.l186, cka_i hm5.k187 hm5.l187, cka_i hm5.k188 hm5.l188, cka_i hm5.k189 hm5.l189, cka_i hm5.k190 hm5.l190, e1])
    rw [← hQ]
    unfold aLane nLane
    rw [if_pos hc, if_pos hc, Int.toNat_natCast]
    exact ok_some ⟨rfl, h5, ((((FM_thrown.tr0 (F1.rsm (by decide))).tr0 (F2.rsm (by decide))).tr0 (F3.rsm (by decide))).tr0 (F_row0.rsm (by decide))).tr0 (F5.rsm (by decide))⟩
  · (try simp (disch := omega) only [vl_s, bp_s, bd_s, bv_s, i32_nl, i32_n, i32_add, i32_sub, i32_mul, i32_neg, i32_ca, i32_cm, i32_cs, i32_cn, i32_le, i32_lt, i32_eq, i32_cl, Int.toNat_natCast, if_pos, if_neg, ite_true, ite_false, not_true_eq_false, not_false_eq_true, Nat.add_zero, Nat.zero_add, Nat.add_sub_cancel, ck_p, cko_si, cka_si, cko_sl, cka_sl, gi_e, gi_x, gl_e, gl_x, gr_si, gl_si, gi_sl, gr_sl, cko_c hm.k (show 3 ∈ [3] by decide), dr_c hm.r2, dr_c hm.r9, dr_c hm.r10, dr_c hm.r11, dr_c hm.r12, dr_c hm.r13, dr_c hm.r14, dr_c hm.r15, dr_c hm.r16, dr_c hm.r21, dr_c hm.r23, dr_c hm.r24, dr_c hm.r27, dr_c hm.r28, dr_c hm.r30, dr_c hm.r33, dr_c hm.r34, dr_c hm.r36, dr_c hm.r37, dr_c hm.r38, dr_c hm.r41, dr_c hm.r43, dr_c hm.r44, dr_c hm.r45, dr_c hm.r46, dr_c hm.r47, dr_c hm.r50, dr_c hm.r51, dr_c hm.r52, cka_i hm.k162 hm.l162, cka_i hm.k163 hm.l163, cka_i hm.k164 hm.l164, cka_i hm.k165 hm.l165, cka_i hm.k166 hm.l166, cka_i hm.k167 hm.l167, cka_i hm.k168 hm.l168, cka_i hm.k169 hm.l169, cka_i hm.k170 hm.l170, cka_i hm.k171 hm.l171, cka_i hm.k172 hm.l172, cka_i hm.k173 hm.l173, cka_i hm.k174 hm.l174, cka_i hm.k175 hm.l175, cka_i hm.k176 hm.l176, cka_i hm.k177 hm.l177, cka_i hm.k178 hm.l178, cka_i hm.k179 hm.l179, cka_i hm.k180 hm.l180, cka_i hm.k181 hm.l181, cka_i hm.k182 hm.l182, cka_i hm.k183 hm.l183, cka_i hm.k184 hm.l184, cka_i hm.k185 hm.l185, cka_i hm.k186 hm.l186, cka_i hm.k187 hm.l187, cka_i hm.k188 hm.l188, cka_i hm.k189 hm.l189, cka_i hm.k190 hm.l190, X3_inI, X1_inI, i32_64, b01_i0, b01_i1, i64_m1, i64_0, i64_1, i64_2, i64_3, i64_8, i64_9, i64_10, i64_12, i64_15, i64_18, i64_20, i64_24, i64_30, i64_39, i64_48, i64_57, i64_60, i64_99, i64_100, i64_999, i64_99999])
    rw [← hQ]
    unfold aLane nLane
    rw [if_neg hc, if_neg hc]
    exact ok_some ⟨rfl, M_thrown h _, FM_thrown⟩
