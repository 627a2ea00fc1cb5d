/-! THE MODEL'S ACTS: orders, messes, undo -/
set_option maxRecDepth 100000
def turnS (S : St) (v : Int) : Int := if liars S.shp S.shp.2.1 - liars S.shp S.shp.2.1 / 2 * 2 = 1 then -v else v
theorem turnS_b (S : St) {v : Int} (h1 : -1 ≤ v) (h2 : v ≤ 1) : -1 ≤ turnS S v ∧ turnS S v ≤ 1 := by unfold turnS; split <;> omega
theorem liars_b (s : Shp) : ∀ n : Nat, 0 ≤ liars s n ∧ liars s n ≤ n
  | 0 => ⟨Int.le_refl _, Int.le_refl _⟩
  | n + 1 => by
    have h := liars_b s n
    show 0 ≤ liars s n + (if s.2.2.2 n then 1 else 0) ∧ liars s n + (if s.2.2.2 n then 1 else 0) ≤ ((n + 1 : Nat) : Int)
    split <;> omega
theorem M_turned {S : St} {σ : vMem} {v : Int} (h : RM S σ) (g : gShp S.shp) (h1 : -1 ≤ v) (h2 : v ≤ 1) : f_X3_turned σ 161 (i32 v) = some (i32 (turnS S v)) := by
  have hm := h.ml
  have q5 := h.shp.2.2.1
  have b := liars_b S.shp S.shp.2.1
  have g3 := g.2.2.1
  unfold f_X3_turned turnS
  simp (disch := omega) only [vl_s, bp_s, bd_s, bv_s, i32_nl, i32_n, i32_add, i32_sub, i32_mul, i32_neg, i32_ca, i32_cm, i32_cs, i32_cn, i32_le, i32_lt, i32_eq, i32_cl, Int.toNat_natCast, if_pos, if_neg, ite_true, ite_false, not_true_eq_false, not_false_eq_true, Nat.add_zero, Nat.zero_add, Nat.add_sub_cancel, ck_p, cko_si, cka_si, cko_sl, cka_sl, gi_e, gi_x, gl_e, gl_x, gr_si, gl_si, gi_sl, gr_sl, cko_c hm.k (show 3 ∈ [3] by decide), dr_c hm.r2, dr_c hm.r9, dr_c hm.r10, dr_c hm.r11, dr_c hm.r12, dr_c hm.r13, dr_c hm.r14, dr_c hm.r15, dr_c hm.r16, dr_c hm.r21, dr_c hm.r23, dr_c hm.r24, dr_c hm.r27, dr_c hm.r28, dr_c hm.r30, dr_c hm.r33, dr_c hm.r34, dr_c hm.r36, dr_c hm.r37, dr_c hm.r38, dr_c hm.r41, dr_c hm.r43, dr_c hm.r44, dr_c hm.r45, dr_c hm.r46, dr_c hm.r47, dr_c hm.r50, dr_c hm.r51, dr_c hm.r52, cka_i hm.k162 hm.l162, cka_i hm.k163 hm.l163, cka_i hm.k164 hm.l164, cka_i hm.k165 hm.l165, cka_i hm.k166 hm.l166, cka_i hm.k167 hm.l167, cka_i hm.k168 hm.l168, cka_i hm.k169 hm.l169, cka_i hm.k170 hm.l170, cka_i hm.k171 hm.l171, cka_i hm.k172 hm.l172, cka_i hm.k173 hm.l173, cka_i hm.k174 hm.l174, cka_i hm.k175 hm.l175, cka_i hm.k176 hm.l176, cka_i hm.k177 hm.l177, cka_i hm.k178 hm.l178, cka_i hm.k179 hm.l179, cka_i hm.k180 hm.l180, cka_i hm.k181 hm.l181, cka_i hm.k182 hm.l182, cka_i hm.k183 hm.l183, cka_i hm.k184 hm.l184, cka_i hm.k185 hm.l185, cka_i hm.k186 hm.l186, cka_i hm.k187 hm.l187, cka_i hm.k188 hm.l188, cka_i hm.k189 hm.l189, cka_i hm.k190 hm.l190, q5, i32_div]
  by_cases c : liars S.shp S.shp.2.1 - liars S.shp S.shp.2.1 / 2 * 2 = 1
  · rw [if_neg (by omega), if_pos c]
  · rw [if_pos (by omega), if_neg c]
/-- what an order answers; what becomes of the watch -/
def giveA (S : St) (W : Wt) (v : Int) : Int := if ¬ (-1 ≤ v ∧ v ≤ 1) then -1 else if W.given = W.now then -2 else if W.ways.length = 12 then -3 else dly S W.now
def giveW (S : St) (W : Wt) (v : Int) : Wt := (W.now, W.lane, W.hits, W.now, W.ways ++ [(W.now + dly S W.now, turnS S v, W.now)], W.food, W.hung)
def giveN (S : St) (W : Wt) (v : Int) : Wt := if 0 ≤ giveA S W v then giveW S W v else W
theorem giveA_pos {S : St} {W : Wt} {v : Int} (h : 0 ≤ giveA S W v) : (-1 ≤ v ∧ v ≤ 1) ∧ W.given ≠ W.now ∧ W.ways.length ≠ 12 := by
  unfold giveA at h
  by_cases c1 : -1 ≤ v ∧ v ≤ 1
  · rw [if_neg (fun q => q c1)] at h
    by_cases c2 : W.given = W.now
    · rw [if_pos c2] at h; omega
    · rw [if_neg c2] at h
      by_cases c3 : W.ways.length = 12
      · rw [if_pos c3] at h; omega
      · exact ⟨c1, c2, c3⟩
  · rw [if_pos c1] at h; omega
theorem giveN_g {S : St} {W : Wt} {v B : Int} (g : gW B W) : gW B (giveN S W v) := by
  unfold giveN
  split
  · rename_i h
    obtain ⟨c1, c2, c3⟩ := giveA_pos h
    obtain ⟨⟨g1, g2, g3, g4, g5, g6, g7⟩, g8, g9, g10⟩ := g
    have db := dly_b S W.now
    have tb := turnS_b S c1.1 c1.2
    have hap : ∀ q, q ∈ W.ways ++ [(W.now + dly S W.now, turnS S v, W.now)] → q ∈ W.ways ∨ q = (W.now + dly S W.now, turnS S v, W.now) := fun q hq => by
      rcases List.mem_append.mp hq with hq | hq
      · exact Or.inl hq
      · exact Or.inr (List.mem_singleton.mp hq)
    refine ⟨⟨g1, g2, g3, g4, ?_, Int.le_refl _, ?_⟩, fun q hq => ?_, g9, ?_⟩
    · show -1 ≤ W.now; omega
    · show (W.ways ++ [(W.now + dly S W.now, turnS S v, W.now)]).length ≤ 12
      rw [List.length_append]
      show W.ways.length + 1 ≤ 12
      omega
    · show W.now < q.1 ∧ q.1 ≤ W.now + 12 ∧ -1 ≤ q.2.1 ∧ q.2.1 ≤ 1 ∧ 0 ≤ q.2.2 ∧ q.2.2 ≤ W.now
      rcases hap q hq with hq | rfl
      · have := g8 q hq; omega
      · dsimp only; omega
    · show (W.ways ++ [(W.now + dly S W.now, turnS S v, W.now)]).Pairwise (fun a b => a.2.2 < b.2.2)
      refine List.pairwise_append.mpr ⟨g10, List.pairwise_singleton _ _, fun a ha b hb => ?_⟩
      rw [List.mem_singleton.mp hb]
      have := g8 a ha
      show a.2.2 < W.now
      omega
  · exact g
def Kgv (a b _j : Nat) : Prop := b ≠ a ∧ b ≠ 174 ∧ b ≠ 175
theorem Kgv_M {a : Nat} (ha : a = 168 ∨ a = 169) (b j : Nat) (h : KM [0, 4] b j) : Kgv a b j := by
  refine ⟨fun e => h ?_, fun e => h ?_, fun e => h ?_⟩
  · subst e
    rcases ha with rfl | rfl
    · rw [show reg 168 j = 4 from rfl]; decide
    · rw [show reg 169 j = 0 from rfl]; decide
  · subst e; rw [show reg 174 j = 0 from rfl]; decide
  · subst e; rw [show reg 175 j = 0 from rfl]; decide
theorem Kgv_9 (b j : Nat) (h : KM [0] b j) : Kgv 169 b j := by
  refine ⟨fun e => h ?_, fun e => h ?_, fun e => h ?_⟩
  · subst e; rw [show reg 169 j = 0 from rfl]; decide
  · subst e; rw [show reg 174 j = 0 from rfl]; decide
  · subst e; rw [show reg 175 j = 0 from rfl]; decide
theorem M_gives {S : St} {σ : vMem} {a : Nat} {W : Wt} {B v : Int} (h : RM S σ) (g : gSt B S) (ha : a = 168 ∨ a = 169) (hr : RowIs W (gi σ a)) (gw : gW B W) (hB : B ≤ 900000) (h1 : -2147483648 ≤ v) (h2 : v < 2147483648) : ok (f_X3_gives σ 161 a (i32 v)) (fun r => r.1 = i32 (giveA S W v) ∧ RowIs (giveN S W v) (gi r.2 a) ∧ Fr (Kgv a) 0 0 σ r.2) := by
  have hm := h.ml
  have hn := h.mn
  have hk : knd σ a = 105 := by rcases ha with rfl | rfl; exact hm.k168; exact hm.k169
  have hl : len σ a = 57 := by rcases ha with rfl | rfl; exact hm.l168; exact hm.l169
  obtain ⟨r0, r1, r2, r3, r4, r5, r6⟩ := hr
  have gw' := gw
  obtain ⟨⟨g1, g2, g3, g4, g5, g6, g7⟩, g8, g9, g10⟩ := gw
  unfold f_X3_gives giveN giveA
  by_cases c1 : -1 ≤ v ∧ v ≤ 1
  · by_cases c2 : W.given = W.now
    · simp (disch := omega) only [vl_s, bp_s, bd_s, bv_s, i32_nl, i32_n, i32_add, i32_sub, i32_mul, i32_neg, i32_ca, i32_cm, i32_cs, i32_cn, i32_le, i32_lt, i32_eq, i32_cl, Int.toNat_natCast, if_pos, if_neg, ite_true, ite_false, not_true_eq_false, not_false_eq_true, Nat.add_zero, Nat.zero_add, Nat.add_sub_cancel, ck_p, cko_si, cka_si, cko_sl, cka_sl, gi_e, gi_x, gl_e, gl_x, gr_si, gl_si, gi_sl, gr_sl, X3_inI, X1_inI, i32_64, b01_i0, b01_i1, i64_m1, i64_0, i64_1, i64_2, i64_3, i64_8, i64_9, i64_10, i64_12, i64_15, i64_18, i64_20, i64_24, i64_30, i64_39, i64_48, i64_57, i64_60, i64_99, i64_100, i64_999, i64_99999, cka_i hk hl, r0, r4]
      exact ok_some ⟨rfl, ⟨r0, r1, r2, r3, r4, r5, r6⟩, Fr.rf⟩
    · by_cases c3 : W.ways.length = 12
      · simp (disch := omega) only [vl_s, bp_s, bd_s, bv_s, i32_nl, i32_n, i32_add, i32_sub, i32_mul, i32_neg, i32_ca, i32_cm, i32_cs, i32_cn, i32_le, i32_lt, i32_eq, i32_cl, Int.toNat_natCast, if_pos, if_neg, ite_true, ite_false, not_true_eq_false, not_false_eq_true, Nat.add_zero, Nat.zero_add, Nat.add_sub_cancel, ck_p, cko_si, cka_si, cko_sl, cka_sl, gi_e, gi_x, gl_e, gl_x, gr_si, gl_si, gi_sl, gr_sl, X3_inI, X1_inI, i32_64, b01_i0, b01_i1, i64_m1, i64_0, i64_1, i64_2, i64_3, i64_8, i64_9, i64_10, i64_12, i64_15, i64_18, i64_20, i64_24, i64_30, i64_39, i64_48, i64_57, i64_60, i64_99, i64_100, i64_999, i64_99999, cka_i hk hl, r0, r3, r4]
        exact ok_some ⟨rfl, ⟨r0, r1, r2, r3, r4, r5, r6⟩, Fr.rf⟩
      · have db := dly_b S W.now
        have tb := turnS_b S c1.1 c1.2
        simp (disch := omega) only [vl_s, bp_s, bd_s, bv_s, i32_nl, i32_n, i32_add, i32_sub, i32_mul, i32_neg, i32_ca, i32_cm, i32_cs, i32_cn, i32_le, i32_lt, i32_eq, i32_cl, Int.toNat_natCast, if_pos, if_neg, ite_true, ite_false, not_true_eq_false, not_false_eq_true, Nat.add_zero, Nat.zero_add, Nat.add_sub_cancel, ck_p, cko_si, cka_si, cko_sl, cka_sl, gi_e, gi_x, gl_e, gl_x, gr_si, gl_si, gi_sl, gr_sl, cko_c hm.k (show 3 ∈ [3] by decide), dr_c hm.r2, dr_c hm.r9, dr_c hm.r10, dr_c hm.r11, dr_c hm.r12, dr_c hm.r13, dr_c hm.r14, dr_c hm.r15, dr_c hm.r16, dr_c hm.r21, dr_c hm.r23, dr_c hm.r24, dr_c hm.r27, dr_c hm.r28, dr_c hm.r30, dr_c hm.r33, dr_c hm.r34, dr_c hm.r36, dr_c hm.r37, dr_c hm.r38, dr_c hm.r41, dr_c hm.r43, dr_c hm.r44, dr_c hm.r45, dr_c hm.r46, dr_c hm.r47, dr_c hm.r50, dr_c hm.r51, dr_c hm.r52, cka_i hm.k162 hm.l162, cka_i hm.k163 hm.l163, cka_i hm.k164 hm.l164, cka_i hm.k165 hm.l165, cka_i hm.k166 hm.l166, cka_i hm.k167 hm.l167, cka_i hm.k168 hm.l168, cka_i hm.k169 hm.l169, cka_i hm.k170 hm.l170, cka_i hm.k171 hm.l171, cka_i hm.k172 hm.l172, cka_i hm.k173 hm.l173, cka_i hm.k174 hm.l174, cka_i hm.k175 hm.l175, cka_i hm.k176 hm.l176, cka_i hm.k177 hm.l177, cka_i hm.k178 hm.l178, cka_i hm.k179 hm.l179, cka_i hm.k180 hm.l180, cka_i hm.k181 hm.l181, cka_i hm.k182 hm.l182, cka_i hm.k183 hm.l183, cka_i hm.k184 hm.l184, cka_i hm.k185 hm.l185, cka_i hm.k186 hm.l186, cka_i hm.k187 hm.l187, cka_i hm.k188 hm.l188, cka_i hm.k189 hm.l189, cka_i hm.k190 hm.l190, X3_inI, X1_inI, i32_64, b01_i0, b01_i1, i64_m1, i64_0, i64_1, i64_2, i64_3, i64_8, i64_9, i64_10, i64_12, i64_15, i64_18, i64_20, i64_24, i64_30, i64_39, i64_48, i64_57, i64_60, i64_99, i64_100, i64_999, i64_99999, cka_i hk hl, r0, r3, r4]
        refine ok_bd (M_delayAt h g g1 (by omega)) ?_
        rintro x σ1 ⟨rfl, h1, F1⟩
        have hm1 := h1.ml
        have hk1 : knd σ1 a = 105 := by rcases ha with rfl | rfl; exact hm1.k168; exact hm1.k169
        have hl1 : len σ1 a = 57 := by rcases ha with rfl | rfl; exact hm1.l168; exact hm1.l169
        have ea : gi σ1 a = gi σ a := funext fun j => F1.i (by omega) (by omega)
        have e0 : gi σ1 a 0 = i32 W.now := by rw [ea]; exact r0
        have e3 : gi σ1 a 3 = i32 W.ways.length := by rw [ea]; exact r3
        have ht : ∀ k w, f_X3_turned (si σ1 a k w) 161 (i32 v) = some (i32 (turnS S v)) := fun k w => by
          have := M_turned (σ := σ1) h1 g.shp c1.1 c1.2
          rw [← this]
          unfold f_X3_turned
          have e : gi (si σ1 a k w) 161 5 = gi σ1 161 5 := gi_x (by omega)
          rw [e]
          rfl
        simp (disch := omega) only [vl_s, bp_s, bd_s, bv_s, i32_nl, i32_n, i32_add, i32_sub, i32_mul, i32_neg, i32_ca, i32_cm, i32_cs, i32_cn, i32_le, i32_lt, i32_eq, i32_cl, Int.toNat_natCast, if_pos, if_neg, ite_true, ite_false, not_true_eq_false, not_false_eq_true, Nat.add_zero, Nat.zero_add, Nat.add_sub_cancel, ck_p, cko_si, cka_si, cko_sl, cka_sl, gi_e, gi_x, gl_e, gl_x, gr_si, gl_si, gi_sl, gr_sl, cko_c hm1.k (show 3 ∈ [3] by decide), dr_c hm1.r2, dr_c hm1.r9, dr_c hm1.r10, dr_c hm1.r11, dr_c hm1.r12, dr_c hm1.r13, dr_c hm1.r14, dr_c hm1.r15, dr_c hm1.r16, dr_c hm1.r21, dr_c hm1.r23, dr_c hm1.r24, dr_c hm1.r27, dr_c hm1.r28, dr_c hm1.r30, dr_c hm1.r33, dr_c hm1.r34, dr_c hm1.r36, dr_c hm1.r37, dr_c hm1.r38, dr_c hm1.r41, dr_c hm1.r43, dr_c hm1.r44, dr_c hm1.r45, dr_c hm1.r46, dr_c hm1.r47, dr_c hm1.r50, dr_c hm1.r51, dr_c hm1.r52, cka_i hm1.k162 hm1.l162, cka_i hm1.k163 hm1.l163, cka_i hm1.k164 hm1.l164, cka_i hm1.k165 hm1.l165, cka_i hm1.k166 hm1.l166, cka_i hm1.k167 hm1.l167, cka_i hm1.k168 hm1.l168, cka_i hm1.k169 hm1.l169, cka_i hm1.k170 hm1.l170, cka_i hm1.k171 hm1.l171, cka_i hm1.k172 hm1.l172, cka_i hm1.k173 hm1.l173, cka_i hm1.k174 hm1.l174, cka_i hm1.k175 hm1.l175, cka_i hm1.k176 hm1.l176, cka_i hm1.k177 hm1.l177, cka_i hm1.k178 hm1.l178, cka_i hm1.k179 hm1.l179, cka_i hm1.k180 hm1.l180, cka_i hm1.k181 hm1.l181, cka_i hm1.k182 hm1.l182, cka_i hm1.k183 hm1.l183, cka_i hm1.k184 hm1.l184, cka_i hm1.k185 hm1.l185, cka_i hm1.k186 hm1.l186, cka_i hm1.k187 hm1.l187, cka_i hm1.k188 hm1.l188, cka_i hm1.k189 hm1.l189, cka_i hm1.k190 hm1.l190, cka_i hk1 hl1, e0, e3, ht]
        refine ok_some ⟨rfl, ⟨?_, ?_, ?_, ?_, ?_, fun k q hkq => ?_, fun m hm => ?_⟩, (((((F1.mono (fun b j q => q.2)).wi (fun q => q.1 rfl)).wi (fun q => q.1 rfl)).wi (fun q => q.1 rfl)).wi (fun q => q.1 rfl)).wi (fun q => q.1 rfl)⟩
        · simp (disch := omega) only [cko_si, cka_si, cko_sl, cka_sl, gi_e, gi_x, gl_e, gl_x, gr_si, gl_si, gi_sl, gr_sl]; exact e0
        · simp (disch := omega) only [cko_si, cka_si, cko_sl, cka_sl, gi_e, gi_x, gl_e, gl_x, gr_si, gl_si, gi_sl, gr_sl, ea]; exact r1
        · simp (disch := omega) only [cko_si, cka_si, cko_sl, cka_sl, gi_e, gi_x, gl_e, gl_x, gr_si, gl_si, gi_sl, gr_sl, ea]; exact r2
        · simp (disch := omega) only [cko_si, cka_si, cko_sl, cka_sl, gi_e, gi_x, gl_e, gl_x, gr_si, gl_si, gi_sl, gr_sl, ea]
          show _ = i32 ((W.ways ++ [_]).length : Int)
          rw [List.length_append]; rfl
        · simp (disch := omega) only [cko_si, cka_si, cko_sl, cka_sl, gi_e, gi_x, gl_e, gl_x, gr_si, gl_si, gi_sl, gr_sl, ea]; rfl
        · have hkq : (W.ways ++ [(W.now + dly S W.now, turnS S v, W.now)])[k]? = some q := hkq
          rcases snoc_get hkq with hkq | ⟨rfl, rfl⟩
          · have h8 : k < W.ways.length := (List.getElem?_eq_some_iff.mp hkq).1
            simp (disch := omega) only [cko_si, cka_si, cko_sl, cka_sl, gi_e, gi_x, gl_e, gl_x, gr_si, gl_si, gi_sl, gr_sl, ea]
            exact r5 k q hkq
          · simp (disch := omega) only [cko_si, cka_si, cko_sl, cka_sl, gi_e, gi_x, gl_e, gl_x, gr_si, gl_si, gi_sl, gr_sl, ea]
            refine ⟨?_, ?_, ?_⟩ <;> first | trivial | rfl
        · simp (disch := omega) only [cko_si, cka_si, cko_sl, cka_sl, gi_e, gi_x, gl_e, gl_x, gr_si, gl_si, gi_sl, gr_sl, ea]; exact r6 m hm
  · simp (disch := omega) only [vl_s, bp_s, bd_s, bv_s, i32_nl, i32_n, i32_add, i32_sub, i32_mul, i32_neg, i32_ca, i32_cm, i32_cs, i32_cn, i32_le, i32_lt, i32_eq, i32_cl, Int.toNat_natCast, if_pos, if_neg, ite_true, ite_false, not_true_eq_false, not_false_eq_true, Nat.add_zero, Nat.zero_add, Nat.add_sub_cancel, ck_p, cko_si, cka_si, cko_sl, cka_sl, gi_e, gi_x, gl_e, gl_x, gr_si, gl_si, gi_sl, gr_sl, X3_inI, X1_inI, i32_64, b01_i0, b01_i1, i64_m1, i64_0, i64_1, i64_2, i64_3, i64_8, i64_9, i64_10, i64_12, i64_15, i64_18, i64_20, i64_24, i64_30, i64_39, i64_48, i64_57, i64_60, i64_99, i64_100, i64_999, i64_99999]
    exact ok_some ⟨rfl, ⟨r0, r1, r2, r3, r4, r5, r6⟩, Fr.rf⟩
theorem M_counts {S : St} {σ : vMem} {B : Int} {W : Wt} {x : Int} (h : RM S σ) (g : gUnd B S.und) (gw : gW B W) (hW : WM σ 176 (57 * S.und.length) W) (h1 : -2147483648 ≤ x) (h2 : x < 2147483648) : ok (f_X3_counts σ 161 (i32 x)) (fun r => r.1 = i32 x ∧ RM (if 0 ≤ x then S.wUnd (pushU S.und W) else S) r.2 ∧ Fr (KM [0, 5]) 0 0 σ r.2) := by
  have hm := h.ml
  unfold f_X3_counts
  by_cases c : 0 ≤ x
  · simp (disch := omega) only [vl_s, bp_s, bd_s, bv_s, i32_nl, i32_n, i32_add, i32_sub, i32_mul, i32_neg, i32_ca, i32_cm, i32_cs, i32_cn, i32_le, i32_lt, i32_eq, i32_cl, Int.toNat_natCast, if_pos, if_neg, ite_true, ite_false, not_true_eq_false, not_false_eq_true, Nat.add_zero, Nat.zero_add, Nat.add_sub_cancel, ck_p, cko_c hm.k (show 3 ∈ [3] by decide), dr_c hm.r2, dr_c hm.r9, dr_c hm.r10, dr_c hm.r11, dr_c hm.r12, dr_c hm.r13, dr_c hm.r14, dr_c hm.r15, dr_c hm.r16, dr_c hm.r21, dr_c hm.r23, dr_c hm.r24, dr_c hm.r27, dr_c hm.r28, dr_c hm.r30, dr_c hm.r33, dr_c hm.r34, dr_c hm.r36, dr_c hm.r37, dr_c hm.r38, dr_c hm.r41, dr_c hm.r43, dr_c hm.r44, dr_c hm.r45, dr_c hm.r46, dr_c hm.r47, dr_c hm.r50, dr_c hm.r51, dr_c hm.r52, cka_i hm.k162 hm.l162, cka_i hm.k163 hm.l163, cka_i hm.k164 hm.l164, cka_i hm.k165 hm.l165, cka_i hm.k166 hm.l166, cka_i hm.k167 hm.l167, cka_i hm.k168 hm.l168, cka_i hm.k169 hm.l169, cka_i hm.k170 hm.l170, cka_i hm.k171 hm.l171, cka_i hm.k172 hm.l172, cka_i hm.k173 hm.l173, cka_i hm.k174 hm.l174, cka_i hm.k175 hm.l175, cka_i hm.k176 hm.l176, cka_i hm.k177 hm.l177, cka_i hm.k178 hm.l178, cka_i hm.k179 hm.l179, cka_i hm.k180 hm.l180, cka_i hm.k181 hm.l181, cka_i hm.k182 hm.l182, cka_i hm.k183 hm.l183, cka_i hm.k184 hm.l184, cka_i hm.k185 hm.l185, cka_i hm.k186 hm.l186, cka_i hm.k187 hm.l187, cka_i hm.k188 hm.l188, cka_i hm.k189 hm.l189, cka_i hm.k190 hm.l190]
    refine ok_bd (M_adds h g gw hW) ?_
    rintro y σ1 ⟨rfl, h1, F1⟩
    exact ok_some ⟨rfl, h1, F1⟩
  · simp (disch := omega) only [vl_s, bp_s, bd_s, bv_s, i32_nl, i32_n, i32_add, i32_sub, i32_mul, i32_neg, i32_ca, i32_cm, i32_cs, i32_cn, i32_le, i32_lt, i32_eq, i32_cl, Int.toNat_natCast, if_pos, if_neg, ite_true, ite_false, not_true_eq_false, not_false_eq_true, Nat.add_zero, Nat.zero_add, Nat.add_sub_cancel, ck_p]
    exact ok_some ⟨rfl, h, Fr.rf⟩
def aOrder (S : St) (v : Int) : Int := giveA S S.now v
def nOrder (S : St) (v : Int) : St := if 0 ≤ aOrder S v then (S.wNow (giveW S S.now v)).wUnd (pushU S.und S.now) else S
theorem giveA_b (S : St) (W : Wt) (v : Int) : -3 ≤ giveA S W v ∧ giveA S W v ≤ 12 := by
  have := dly_b S W.now
  unfold giveA
  repeat' split
  all_goals omega
theorem M_order {S : St} {σ : vMem} {B v : Int} (h : RM S σ) (g : gSt B S) (hB : B ≤ 900000) (h1 : -2147483648 ≤ v) (h2 : v < 2147483648) : ok (f_X3_order σ 161 (i32 v)) (fun r => r.1 = i32 (aOrder S v) ∧ RM (nOrder S v) r.2 ∧ FM σ r.2) := by
  have hm := h.ml
  unfold f_X3_order
  simp (disch := omega) only [vl_s, bp_s, bd_s, bv_s, i32_nl, i32_n, i32_add, i32_sub, i32_mul, i32_neg, i32_ca, i32_cm, i32_cs, i32_cn, i32_le, i32_lt, i32_eq, i32_cl, Int.toNat_natCast, if_pos, if_neg, ite_true, ite_false, not_true_eq_false, not_false_eq_true, Nat.add_zero, Nat.zero_add, Nat.add_sub_cancel, ck_p, cko_si, cka_si, cko_sl, cka_sl, gi_e, gi_x, gl_e, gl_x, gr_si, gl_si, gi_sl, gr_sl, cko_c hm.k (show 3 ∈ [3] by decide), dr_c hm.r2, dr_c hm.r9, dr_c hm.r10, dr_c hm.r11, dr_c hm.r12, dr_c hm.r13, dr_c hm.r14, dr_c hm.r15, dr_c hm.r16, dr_c hm.r21, dr_c hm.r23, dr_c hm.r24, dr_c hm.r27, dr_c hm.r28, dr_c hm.r30, dr_c hm.r33, dr_c hm.r34, dr_c hm.r36, dr_c hm.r37, dr_c hm.r38, dr_c hm.r41, dr_c hm.r43, dr_c hm.r44, dr_c hm.r45, dr_c hm.r46, dr_c hm.r47, dr_c hm.r50, dr_c hm.r51, dr_c hm.r52, cka_i hm.k162 hm.l162, cka_i hm.k163 hm.l163, cka_i hm.k164 hm.l164, cka_i hm.k165 hm.l165, cka_i hm.k166 hm.l166, cka_i hm.k167 hm.l167, cka_i hm.k168 hm.l168, cka_i hm.k169 hm.l169, cka_i hm.k170 hm.l170, cka_i hm.k171 hm.l171, cka_i hm.k172 hm.l172, cka_i hm.k173 hm.l173, cka_i hm.k174 hm.l174, cka_i hm.k175 hm.l175, cka_i hm.k176 hm.l176, cka_i hm.k177 hm.l177, cka_i hm.k178 hm.l178, cka_i hm.k179 hm.l179, cka_i hm.k180 hm.l180, cka_i hm.k181 hm.l181, cka_i hm.k182 hm.l182, cka_i hm.k183 hm.l183, cka_i hm.k184 hm.l184, cka_i hm.k185 hm.l185, cka_i hm.k186 hm.l186, cka_i hm.k187 hm.l187, cka_i hm.k188 hm.l188, cka_i hm.k189 hm.l189, cka_i hm.k190 hm.l190]
  refine ok_bv (M_putsBy (M_thrown h _) g) ?_
  rintro σ1 ⟨q1, w1, F1⟩
  have hm1 := q1.ml
  simp (disch := omega) only [vl_s, bp_s, bd_s, bv_s, i32_nl, i32_n, i32_add, i32_sub, i32_mul, i32_neg, i32_ca, i32_cm, i32_cs, i32_cn, i32_le, i32_lt, i32_eq, i32_cl, Int.toNat_natCast, if_pos, if_neg, ite_true, ite_false, not_true_eq_false, not_false_eq_true, Nat.add_zero, Nat.zero_add, Nat.add_sub_cancel, ck_p, cko_c hm1.k (show 3 ∈ [3] by decide), dr_c hm1.r2, dr_c hm1.r9, dr_c hm1.r10, dr_c hm1.r11, dr_c hm1.r12, dr_c hm1.r13, dr_c hm1.r14, dr_c hm1.r15, dr_c hm1.r16, dr_c hm1.r21, dr_c hm1.r23, dr_c hm1.r24, dr_c hm1.r27, dr_c hm1.r28, dr_c hm1.r30, dr_c hm1.r33, dr_c hm1.r34, dr_c hm1.r36, dr_c hm1.r37, dr_c hm1.r38, dr_c hm1.r41, dr_c hm1.r43, dr_c hm1.r44, dr_c hm1.r45, dr_c hm1.r46, dr_c hm1.r47, dr_c hm1.r50, dr_c hm1.r51, dr_c hm1.r52, cka_i hm1.k162 hm1.l162, cka_i hm1.k163 hm1.l163, cka_i hm1.k164 hm1.l164, cka_i hm1.k165 hm1.l165, cka_i hm1.k166 hm1.l166, cka_i hm1.k167 hm1.l167, cka_i hm1.k168 hm1.l168, cka_i hm1.k169 hm1.l169, cka_i hm1.k170 hm1.l170, cka_i hm1.k171 hm1.l171, cka_i hm1.k172 hm1.l172, cka_i hm1.k173 hm1.l173, cka_i hm1.k174 hm1.l174, cka_i hm1.k175 hm1.l175, cka_i hm1.k176 hm1.l176, cka_i hm1.k177 hm1.l177, cka_i hm1.k178 hm1.l178, cka_i hm1.k179 hm1.l179, cka_i hm1.k180 hm1.l180, cka_i hm1.k181 hm1.l181, cka_i hm1.k182 hm1.l182, cka_i hm1.k183 hm1.l183, cka_i hm1.k184 hm1.l184, cka_i hm1.k185 hm1.l185, cka_i hm1.k186 hm1.l186, cka_i hm1.k187 hm1.l187, cka_i hm1.k188 hm1.l188, cka_i hm1.k189 hm1.l189, cka_i hm1.k190 hm1.l190]
  refine ok_bd (M_gives q1 g (Or.inl rfl) q1.now g.now hB h1 h2) ?_
  rintro x σ2 ⟨rfl, r2, F2⟩
  have F2' : Fr (KM [0, 4]) 0 0 σ1 σ2 := F2.mono (Kgv_M (Or.inl rfl))
  have q2 := q1.uNow F2' r2
  have hm2 := q2.ml
  have gb := giveA_b S S.now v
  simp (disch := omega) only [vl_s, bp_s, bd_s, bv_s, i32_nl, i32_n, i32_add, i32_sub, i32_mul, i32_neg, i32_ca, i32_cm, i32_cs, i32_cn, i32_le, i32_lt, i32_eq, i32_cl, Int.toNat_natCast, if_pos, if_neg, ite_true, ite_false, not_true_eq_false, not_false_eq_true, Nat.add_zero, Nat.zero_add, Nat.add_sub_cancel, ck_p, cko_c hm2.k (show 3 ∈ [3] by decide), dr_c hm2.r2, dr_c hm2.r9, dr_c hm2.r10, dr_c hm2.r11, dr_c hm2.r12, dr_c hm2.r13, dr_c hm2.r14, dr_c hm2.r15, dr_c hm2.r16, dr_c hm2.r21, dr_c hm2.r23, dr_c hm2.r24, dr_c hm2.r27, dr_c hm2.r28, dr_c hm2.r30, dr_c hm2.r33, dr_c hm2.r34, dr_c hm2.r36, dr_c hm2.r37, dr_c hm2.r38, dr_c hm2.r41, dr_c hm2.r43, dr_c hm2.r44, dr_c hm2.r45, dr_c hm2.r46, dr_c hm2.r47, dr_c hm2.r50, dr_c hm2.r51, dr_c hm2.r52, cka_i hm2.k162 hm2.l162, cka_i hm2.k163 hm2.l163, cka_i hm2.k164 hm2.l164, cka_i hm2.k165 hm2.l165, cka_i hm2.k166 hm2.l166, cka_i hm2.k167 hm2.l167, cka_i hm2.k168 hm2.l168, cka_i hm2.k169 hm2.l169, cka_i hm2.k170 hm2.l170, cka_i hm2.k171 hm2.l171, cka_i hm2.k172 hm2.l172, cka_i hm2.k173 hm2.l173, cka_i hm2.k174 hm2.l174, cka_i hm2.k175 hm2.l175, cka_i hm2.k176 hm2.l176, cka_i hm2.k177 hm2.l177, cka_i hm2.k178 hm2.l178, cka_i hm2.k179 hm2.l179, cka_i hm2.k180 hm2.l180, cka_i hm2.k181 hm2.l181, cka_i hm2.k182 hm2.l182, cka_i hm2.k183 hm2.l183, cka_i hm2.k184 hm2.l184, cka_i hm2.k185 hm2.l185, cka_i hm2.k186 hm2.l186, cka_i hm2.k187 hm2.l187, cka_i hm2.k188 hm2.l188, cka_i hm2.k189 hm2.l189, cka_i hm2.k190 hm2.l190]
  refine ok_bd (M_counts q2 g.und g.now (w1.frt F2' (by have := q1.mn; omega) 5 (by decide) (fun _ => rfl)) (by omega) (by omega)) ?_
  rintro x σ3 ⟨rfl, q3, F3⟩
  refine ok_some ⟨rfl, ?_, ((FM_thrown.tr0 (F1.rsm (by decide))).tr0 (F2'.rsm (by decide))).tr0 (F3.rsm (by decide))⟩
  unfold nOrder aOrder
  unfold giveN at q3
  by_cases c : 0 ≤ giveA S S.now v
  · rw [if_pos c, if_pos c] at q3
    rw [if_pos c]
    simp only [st_Shp_Shp, st_Shp_Rck, st_Shp_Mes, st_Shp_Now, st_Shp_Und, st_Shp_Txt, st_Shp_Rul, st_Shp_Sts, st_Shp_Pgs, st_Shp_Row, st_Rck_Shp, st_Rck_Rck, st_Rck_Mes, st_Rck_Now, st_Rck_Und, st_Rck_Txt, st_Rck_Rul, st_Rck_Sts, st_Rck_Pgs, st_Rck_Row, st_Mes_Shp, st_Mes_Rck, st_Mes_Mes, st_Mes_Now, st_Mes_Und, st_Mes_Txt, st_Mes_Rul, st_Mes_Sts, st_Mes_Pgs, st_Mes_Row, st_Now_Shp, st_Now_Rck, st_Now_Mes, st_Now_Now, st_Now_Und, st_Now_Txt, st_Now_Rul, st_Now_Sts, st_Now_Pgs, st_Now_Row, st_Und_Shp, st_Und_Rck, st_Und_Mes, st_Und_Now, st_Und_Und, st_Und_Txt, st_Und_Rul, st_Und_Sts, st_Und_Pgs, st_Und_Row, st_Txt_Shp, st_Txt_Rck, st_Txt_Mes, st_Txt_Now, st_Txt_Und, st_Txt_Txt, st_Txt_Rul, st_Txt_Sts, st_Txt_Pgs, st_Txt_Row, st_Rul_Shp, st_Rul_Rck, st_Rul_Mes, st_Rul_Now, st_Rul_Und, st_Rul_Txt, st_Rul_Rul, st_Rul_Sts, st_Rul_Pgs, st_Rul_Row, st_Sts_Shp, st_Sts_Rck, st_Sts_Mes, st_Sts_Now, st_Sts_Und, st_Sts_Txt, st_Sts_Rul, st_Sts_Sts, st_Sts_Pgs, st_Sts_Row, st_Pgs_Shp, st_Pgs_Rck, st_Pgs_Mes, st_Pgs_Now, st_Pgs_Und, st_Pgs_Txt, st_Pgs_Rul, st_Pgs_Sts, st_Pgs_Pgs, st_Pgs_Row, st_Row_Shp, st_Row_Rck, st_Row_Mes, st_Row_Now, st_Row_Und, st_Row_Txt, st_Row_Rul, st_Row_Sts, st_Row_Pgs, st_Row_Row, st_r0_Shp, st_rA_Shp, st_r0_Rck, st_rA_Rck, st_r0_Mes, st_rA_Mes, st_r0_Now, st_rA_Now, st_r0_Und, st_rA_Und, st_r0_Txt, st_rA_Txt, st_r0_Rul, st_rA_Rul, st_r0_Sts, st_rA_Sts, st_r0_Pgs, st_rA_Pgs, st_r0_Row, st_rA_Row, sw_r0_Shp, sw_rA_Shp, sw_Shp_Shp, sw_r0_Rck, sw_rA_Rck, sw_Rck_Rck, sw_Rck_Shp, sw_r0_Mes, sw_rA_Mes, sw_Mes_Mes, sw_Mes_Shp, sw_Mes_Rck, sw_r0_Now, sw_rA_Now, sw_Now_Now, sw_Now_Shp, sw_Now_Rck, sw_Now_Mes, sw_r0_Und, sw_rA_Und, sw_Und_Und, sw_Und_Shp, sw_Und_Rck, sw_Und_Mes, sw_Und_Now, sw_r0_Txt, sw_rA_Txt, sw_Txt_Txt, sw_Txt_Shp, sw_Txt_Rck, sw_Txt_Mes, sw_Txt_Now, sw_Txt_Und, sw_r0_Rul, sw_rA_Rul, sw_Rul_Rul, sw_Rul_Shp, sw_Rul_Rck, sw_Rul_Mes, sw_Rul_Now, sw_Rul_Und, sw_Rul_Txt, sw_r0_Sts, sw_rA_Sts, sw_Sts_Sts, sw_Sts_Shp, sw_Sts_Rck, sw_Sts_Mes, sw_Sts_Now, sw_Sts_Und, sw_Sts_Txt, sw_Sts_Rul, sw_r0_Pgs, sw_rA_Pgs, sw_Pgs_Pgs, sw_Pgs_Shp, sw_Pgs_Rck, sw_Pgs_Mes, sw_Pgs_Now, sw_Pgs_Und, sw_Pgs_Txt, sw_Pgs_Rul, sw_Pgs_Sts] at q3
    exact q3
  · rw [if_neg c, if_neg c] at q3
    rw [if_neg c]
    exact q3
def foodW (W : Wt) (k : Nat) (n : Int) : Wt := (W.now, W.lane, W.hits, W.given, W.ways, up1 W.food k n, W.hung)
theorem foodW_g {W : Wt} {k : Nat} {n B : Int} (g : gW B W) (h1 : 0 ≤ n) (h2 : n ≤ 99) : gW B (foodW W k n) := by
  refine ⟨g.1, g.2.1, fun m hm => ?_, g.2.2.2⟩
  show 0 ≤ up1 W.food k n m ∧ up1 W.food k n m ≤ 99
  unfold up1
  split
  · exact ⟨h1, h2⟩
  · exact g.2.2.1 m hm
theorem foodW_row {W : Wt} {σ : vMem} {k : Nat} {n : Int} (h : RowIs W (gi σ 168)) (hw : W.ways.length ≤ 12) (hk : k < 8) : RowIs (foodW W k n) (gi (si σ 168 (41 + k) (i32 n)) 168) := by
  obtain ⟨r0, r1, r2, r3, r4, r5, r6⟩ := h
  refine ⟨?_, ?_, ?_, ?_, ?_, fun j q hj => ?_, fun m hm => ?_⟩
  · simp (disch := omega) only [cko_si, cka_si, cko_sl, cka_sl, gi_e, gi_x, gl_e, gl_x, gr_si, gl_si, gi_sl, gr_sl]; exact r0
  · simp (disch := omega) only [cko_si, cka_si, cko_sl, cka_sl, gi_e, gi_x, gl_e, gl_x, gr_si, gl_si, gi_sl, gr_sl]; exact r1
  · simp (disch := omega) only [cko_si, cka_si, cko_sl, cka_sl, gi_e, gi_x, gl_e, gl_x, gr_si, gl_si, gi_sl, gr_sl]; exact r2
  · simp (disch := omega) only [cko_si, cka_si, cko_sl, cka_sl, gi_e, gi_x, gl_e, gl_x, gr_si, gl_si, gi_sl, gr_sl]; exact r3
  · simp (disch := omega) only [cko_si, cka_si, cko_sl, cka_sl, gi_e, gi_x, gl_e, gl_x, gr_si, gl_si, gi_sl, gr_sl]; exact r4
  · have hj : W.ways[j]? = some q := hj
    have h8 : j < W.ways.length := (List.getElem?_eq_some_iff.mp hj).1
    simp (disch := omega) only [cko_si, cka_si, cko_sl, cka_sl, gi_e, gi_x, gl_e, gl_x, gr_si, gl_si, gi_sl, gr_sl]; exact r5 j q hj
  · show gi (si σ 168 (41 + k) (i32 n)) 168 (41 + m) = i32 (up1 W.food k n m) ∧ _
    by_cases e : m = k
    · subst e
      rw [up1_same]
      simp (disch := omega) only [cko_si, cka_si, cko_sl, cka_sl, gi_e, gi_x, gl_e, gl_x, gr_si, gl_si, gi_sl, gr_sl]
      exact ⟨trivial, (r6 m hm).2⟩
    · rw [up1_ne _ _ e]
      simp (disch := omega) only [cko_si, cka_si, cko_sl, cka_sl, gi_e, gi_x, gl_e, gl_x, gr_si, gl_si, gi_sl, gr_sl]
      exact r6 m hm
def aCook (S : St) (m n : Int) : Int := if (0 ≤ m ∧ m < S.mes.1) ∧ 0 ≤ n ∧ n ≤ 99 then S.now.food m.toNat else -1
def nCook (S : St) (m n : Int) : St := if (0 ≤ m ∧ m < S.mes.1) ∧ 0 ≤ n ∧ n ≤ 99 then (S.wNow (foodW S.now m.toNat n)).wUnd (pushU S.und S.now) else S
theorem M_cook {S : St} {σ : vMem} {B m n : Int} (h : RM S σ) (g : gSt B S) (h1 : -2147483648 ≤ m) (h2 : m < 2147483648) (h3 : -2147483648 ≤ n) (h4 : n < 2147483648) : ok (f_X3_cook σ 161 (i32 m) (i32 n)) (fun r => r.1 = i32 (aCook S m n) ∧ RM (nCook S m n) r.2 ∧ FM σ r.2) := by
  have hm := h.ml
  have g8 := g.mes.1
  unfold f_X3_cook
  simp (disch := omega) only [vl_s, bp_s, bd_s, bv_s, i32_nl, i32_n, i32_add, i32_sub, i32_mul, i32_neg, i32_ca, i32_cm, i32_cs, i32_cn, i32_le, i32_lt, i32_eq, i32_cl, Int.toNat_natCast, if_pos, if_neg, ite_true, ite_false, not_true_eq_false, not_false_eq_true, Nat.add_zero, Nat.zero_add, Nat.add_sub_cancel, ck_p, cko_si, cka_si, cko_sl, cka_sl, gi_e, gi_x, gl_e, gl_x, gr_si, gl_si, gi_sl, gr_sl, cko_c hm.k (show 3 ∈ [3] by decide), dr_c hm.r2, dr_c hm.r9, dr_c hm.r10, dr_c hm.r11, dr_c hm.r12, dr_c hm.r13, dr_c hm.r14, dr_c hm.r15, dr_c hm.r16, dr_c hm.r21, dr_c hm.r23, dr_c hm.r24, dr_c hm.r27, dr_c hm.r28, dr_c hm.r30, dr_c hm.r33, dr_c hm.r34, dr_c hm.r36, dr_c hm.r37, dr_c hm.r38, dr_c hm.r41, dr_c hm.r43, dr_c hm.r44, dr_c hm.r45, dr_c hm.r46, dr_c hm.r47, dr_c hm.r50, dr_c hm.r51, dr_c hm.r52, cka_i hm.k162 hm.l162, cka_i hm.k163 hm.l163, cka_i hm.k164 hm.l164, cka_i hm.k165 hm.l165, cka_i hm.k166 hm.l166, cka_i hm.k167 hm.l167, cka_i hm.k168 hm.l168, cka_i hm.k169 hm.l169, cka_i hm.k170 hm.l170, cka_i hm.k171 hm.l171, cka_i hm.k172 hm.l172, cka_i hm.k173 hm.l173, cka_i hm.k174 hm.l174, cka_i hm.k175 hm.l175, cka_i hm.k176 hm.l176, cka_i hm.k177 hm.l177, cka_i hm.k178 hm.l178, cka_i hm.k179 hm.l179, cka_i hm.k180 hm.l180, cka_i hm.k181 hm.l181, cka_i hm.k182 hm.l182, cka_i hm.k183 hm.l183, cka_i hm.k184 hm.l184, cka_i hm.k185 hm.l185, cka_i hm.k186 hm.l186, cka_i hm.k187 hm.l187, cka_i hm.k188 hm.l188, cka_i hm.k189 hm.l189, cka_i hm.k190 hm.l190]
  refine ok_bv (M_putsBy (M_thrown h _) g) ?_
  rintro σ1 ⟨q1, w1, F1⟩
  have hm1 := q1.ml
  have e7 := q1.mes.1
  have FF : FM σ σ1 := FM_thrown.tr0 (F1.rsm (by decide))
  simp (disch := omega) only [vl_s, bp_s, bd_s, bv_s, i32_nl, i32_n, i32_add, i32_sub, i32_mul, i32_neg, i32_ca, i32_cm, i32_cs, i32_cn, i32_le, i32_lt, i32_eq, i32_cl, Int.toNat_natCast, if_pos, if_neg, ite_true, ite_false, not_true_eq_false, not_false_eq_true, Nat.add_zero, Nat.zero_add, Nat.add_sub_cancel, ck_p, cko_c hm1.k (show 3 ∈ [3] by decide), dr_c hm1.r2, dr_c hm1.r9, dr_c hm1.r10, dr_c hm1.r11, dr_c hm1.r12, dr_c hm1.r13, dr_c hm1.r14, dr_c hm1.r15, dr_c hm1.r16, dr_c hm1.r21, dr_c hm1.r23, dr_c hm1.r24, dr_c hm1.r27, dr_c hm1.r28, dr_c hm1.r30, dr_c hm1.r33, dr_c hm1.r34, dr_c hm1.r36, dr_c hm1.r37, dr_c hm1.r38, dr_c hm1.r41, dr_c hm1.r43, dr_c hm1.r44, dr_c hm1.r45, dr_c hm1.r46, dr_c hm1.r47, dr_c hm1.r50, dr_c hm1.r51, dr_c hm1.r52, cka_i hm1.k162 hm1.l162, cka_i hm1.k163 hm1.l163, cka_i hm1.k164 hm1.l164, cka_i hm1.k165 hm1.l165, cka_i hm1.k166 hm1.l166, cka_i hm1.k167 hm1.l167, cka_i hm1.k168 hm1.l168, cka_i hm1.k169 hm1.l169, cka_i hm1.k170 hm1.l170, cka_i hm1.k171 hm1.l171, cka_i hm1.k172 hm1.l172, cka_i hm1.k173 hm1.l173, cka_i hm1.k174 hm1.l174, cka_i hm1.k175 hm1.l175, cka_i hm1.k176 hm1.l176, cka_i hm1.k177 hm1.l177, cka_i hm1.k178 hm1.l178, cka_i hm1.k179 hm1.l179, cka_i hm1.k180 hm1.l180, cka_i hm1.k181 hm1.l181, cka_i hm1.k182 hm1.l182, cka_i hm1.k183 hm1.l183, cka_i hm1.k184 hm1.l184, cka_i hm1.k185 hm1.l185, cka_i hm1.k186 hm1.l186, cka_i hm1.k187 hm1.l187, cka_i hm1.k188 hm1.l188, cka_i hm1.k189 hm1.l189, cka_i hm1.k190 hm1.l190]
  unfold f_X3_cooks aCook nCook
  by_cases c1 : 0 ≤ m ∧ m < S.mes.1
  · by_cases c2 : 0 ≤ n ∧ n ≤ 99
    · obtain ⟨k, rfl⟩ : ∃ k : Nat, m = k := ⟨m.toNat, by omega⟩
      have f := q1.now.2.2.2.2.2.2 k (by omega)
      rw [if_pos ⟨c1, c2⟩, if_pos ⟨c1, c2⟩]
      have gf := g.now.2.2.1 k (by omega)
      simp (disch := omega) only [vl_s, bp_s, bd_s, bv_s, i32_nl, i32_n, i32_add, i32_sub, i32_mul, i32_neg, i32_ca, i32_cm, i32_cs, i32_cn, i32_le, i32_lt, i32_eq, i32_cl, Int.toNat_natCast, if_pos, if_neg, ite_true, ite_false, not_true_eq_false, not_false_eq_true, Nat.add_zero, Nat.zero_add, Nat.add_sub_cancel, ck_p, cko_si, cka_si, cko_sl, cka_sl, gi_e, gi_x, gl_e, gl_x, gr_si, gl_si, gi_sl, gr_sl, X3_inI, X1_inI, i32_64, b01_i0, b01_i1, i64_m1, i64_0, i64_1, i64_2, i64_3, i64_8, i64_9, i64_10, i64_12, i64_15, i64_18, i64_20, i64_24, i64_30, i64_39, i64_48, i64_57, i64_60, i64_99, i64_100, i64_999, i64_99999, cko_c hm1.k (show 3 ∈ [3] by decide), dr_c hm1.r2, dr_c hm1.r9, dr_c hm1.r10, dr_c hm1.r11, dr_c hm1.r12, dr_c hm1.r13, dr_c hm1.r14, dr_c hm1.r15, dr_c hm1.r16, dr_c hm1.r21, dr_c hm1.r23, dr_c hm1.r24, dr_c hm1.r27, dr_c hm1.r28, dr_c hm1.r30, dr_c hm1.r33, dr_c hm1.r34, dr_c hm1.r36, dr_c hm1.r37, dr_c hm1.r38, dr_c hm1.r41, dr_c hm1.r43, dr_c hm1.r44, dr_c hm1.r45, dr_c hm1.r46, dr_c hm1.r47, dr_c hm1.r50, dr_c hm1.r51, dr_c hm1.r52, cka_i hm1.k162 hm1.l162, cka_i hm1.k163 hm1.l163, cka_i hm1.k164 hm1.l164, cka_i hm1.k165 hm1.l165, cka_i hm1.k166 hm1.l166, cka_i hm1.k167 hm1.l167, cka_i hm1.k168 hm1.l168, cka_i hm1.k169 hm1.l169, cka_i hm1.k170 hm1.l170, cka_i hm1.k171 hm1.l171, cka_i hm1.k172 hm1.l172, cka_i hm1.k173 hm1.l173, cka_i hm1.k174 hm1.l174, cka_i hm1.k175 hm1.l175, cka_i hm1.k176 hm1.l176, cka_i hm1.k177 hm1.l177, cka_i hm1.k178 hm1.l178, cka_i hm1.k179 hm1.l179, cka_i hm1.k180 hm1.l180, cka_i hm1.k181 hm1.l181, cka_i hm1.k182 hm1.l182, cka_i hm1.k183 hm1.l183, cka_i hm1.k184 hm1.l184, cka_i hm1.k185 hm1.l185, cka_i hm1.k186 hm1.l186, cka_i hm1.k187 hm1.l187, cka_i hm1.k188 hm1.l188, cka_i hm1.k189 hm1.l189, cka_i hm1.k190 hm1.l190, X3_isM hm1 e7 g8, f.1]
      have F2 : Fr (KM [0, 4]) 0 0 σ1 (si σ1 168 (41 + k) (i32 n)) := Fr.rf.wm 4 rfl (by decide)
      have q2 := q1.uNow F2 (foodW_row (n := n) q1.now g.now.len (by omega))
      have hm2 := q2.ml
      (try simp (disch := omega) only [vl_s, bp_s, bd_s, bv_s, i32_nl, i32_n, i32_add, i32_sub, i32_mul, i32_neg, i32_ca, i32_cm, i32_cs, i32_cn, i32_le, i32_lt, i32_eq, i32_cl, Int.toNat_natCast, if_pos, if_neg, ite_true, ite_false, not_true_eq_false, not_false_eq_true, Nat.add_zero, Nat.zero_add, Nat.add_sub_cancel, ck_p, cko_si, cka_si, cko_sl, cka_sl, gi_e, gi_x, gl_e, gl_x, gr_si, gl_si, gi_sl, gr_sl, cko_c hm2.k (show 3 ∈ [3] by decide), dr_c hm2.r2, dr_c hm2.r9, dr_c hm2.r10, dr_c hm2.r11, dr_c hm2.r12, dr_c hm2.r13, dr_c hm2.r14, dr_c hm2.r15, dr_c hm2.r16, dr_c hm2.r21, dr_c hm2.r23, dr_c hm2.r24, dr_c hm2.r27, dr_c hm2.r28, dr_c hm2.r30, dr_c hm2.r33, dr_c hm2.r34, dr_c hm2.r36, dr_c hm2.r37, dr_c hm2.r38, dr_c hm2.r41, dr_c hm2.r43, dr_c hm2.r44, dr_c hm2.r45, dr_c hm2.r46, dr_c hm2.r47, dr_c hm2.r50, dr_c hm2.r51, dr_c hm2.r52, cka_i hm2.k162 hm2.l162, cka_i hm2.k163 hm2.l163, cka_i hm2.k164 hm2.l164, cka_i hm2.k165 hm2.l165, cka_i hm2.k166 hm2.l166, cka_i hm2.k167 hm2.l167, cka_i hm2.k168 hm2.l168, cka_i hm2.k169 hm2.l169, cka_i hm2.k170 hm2.l170, cka_i hm2.k171 hm2.l171, cka_i hm2.k172 hm2.l172, cka_i hm2.k173 hm2.l173, cka_i hm2.k174 hm2.l174, cka_i hm2.k175 hm2.l175, cka_i hm2.k176 hm2.l176, cka_i hm2.k177 hm2.l177, cka_i hm2.k178 hm2.l178, cka_i hm2.k179 hm2.l179, cka_i hm2.k180 hm2.l180, cka_i hm2.k181 hm2.l181, cka_i hm2.k182 hm2.l182, cka_i hm2.k183 hm2.l183, cka_i hm2.k184 hm2.l184, cka_i hm2.k185 hm2.l185, cka_i hm2.k186 hm2.l186, cka_i hm2.k187 hm2.l187, cka_i hm2.k188 hm2.l188, cka_i hm2.k189 hm2.l189, cka_i hm2.k190 hm2.l190])
      refine ok_bd (M_counts q2 g.und g.now (w1.frt F2 (by have := q1.mn; omega) 5 (by decide) (fun _ => rfl)) (by omega) (by omega)) ?_
      rintro x σ3 ⟨rfl, q3, F3⟩
      rw [if_pos gf.1] at q3
      simp only [st_Shp_Shp, st_Shp_Rck, st_Shp_Mes, st_Shp_Now, st_Shp_Und, st_Shp_Txt, st_Shp_Rul, st_Shp_Sts, st_Shp_Pgs, st_Shp_Row, st_Rck_Shp, st_Rck_Rck, st_Rck_Mes, st_Rck_Now, st_Rck_Und, st_Rck_Txt, st_Rck_Rul, st_Rck_Sts, st_Rck_Pgs, st_Rck_Row, st_Mes_Shp, st_Mes_Rck, st_Mes_Mes, st_Mes_Now, st_Mes_Und, st_Mes_Txt, st_Mes_Rul, st_Mes_Sts, st_Mes_Pgs, st_Mes_Row, st_Now_Shp, st_Now_Rck, st_Now_Mes, st_Now_Now, st_Now_Und, st_Now_Txt, st_Now_Rul, st_Now_Sts, st_Now_Pgs, st_Now_Row, st_Und_Shp, st_Und_Rck, st_Und_Mes, st_Und_Now, st_Und_Und, st_Und_Txt, st_Und_Rul, st_Und_Sts, st_Und_Pgs, st_Und_Row, st_Txt_Shp, st_Txt_Rck, st_Txt_Mes, st_Txt_Now, st_Txt_Und, st_Txt_Txt, st_Txt_Rul, st_Txt_Sts, st_Txt_Pgs, st_Txt_Row, st_Rul_Shp, st_Rul_Rck, st_Rul_Mes, st_Rul_Now, st_Rul_Und, st_Rul_Txt, st_Rul_Rul, st_Rul_Sts, st_Rul_Pgs, st_Rul_Row, st_Sts_Shp, st_Sts_Rck, st_Sts_Mes, st_Sts_Now, st_Sts_Und, st_Sts_Txt, st_Sts_Rul, st_Sts_Sts, st_Sts_Pgs, st_Sts_Row, st_Pgs_Shp, st_Pgs_Rck, st_Pgs_Mes, st_Pgs_Now, st_Pgs_Und, st_Pgs_Txt, st_Pgs_Rul, st_Pgs_Sts, st_Pgs_Pgs, st_Pgs_Row, st_Row_Shp, st_Row_Rck, st_Row_Mes, st_Row_Now, st_Row_Und, st_Row_Txt, st_Row_Rul, st_Row_Sts, st_Row_Pgs, st_Row_Row, st_r0_Shp, st_rA_Shp, st_r0_Rck, st_rA_Rck, st_r0_Mes, st_rA_Mes, st_r0_Now, st_rA_Now, st_r0_Und, st_rA_Und, st_r0_Txt, st_rA_Txt, st_r0_Rul, st_rA_Rul, st_r0_Sts, st_rA_Sts, st_r0_Pgs, st_rA_Pgs, st_r0_Row, st_rA_Row, sw_r0_Shp, sw_rA_Shp, sw_Shp_Shp, sw_r0_Rck, sw_rA_Rck, sw_Rck_Rck, sw_Rck_Shp, sw_r0_Mes, sw_rA_Mes, sw_Mes_Mes, sw_Mes_Shp, sw_Mes_Rck, sw_r0_Now, sw_rA_Now, sw_Now_Now, sw_Now_Shp, sw_Now_Rck, sw_Now_Mes, sw_r0_Und, sw_rA_Und, sw_Und_Und, sw_Und_Shp, sw_Und_Rck, sw_Und_Mes, sw_Und_Now, sw_r0_Txt, sw_rA_Txt, sw_Txt_Txt, sw_Txt_Shp, sw_Txt_Rck, sw_Txt_Mes, sw_Txt_Now, sw_Txt_Und, sw_r0_Rul, sw_rA_Rul, sw_Rul_Rul, sw_Rul_Shp, sw_Rul_Rck, sw_Rul_Mes, sw_Rul_Now, sw_Rul_Und, sw_Rul_Txt, sw_r0_Sts, sw_rA_Sts, sw_Sts_Sts, sw_Sts_Shp, sw_Sts_Rck, sw_Sts_Mes, sw_Sts_Now, sw_Sts_Und, sw_Sts_Txt, sw_Sts_Rul, sw_r0_Pgs, sw_rA_Pgs, sw_Pgs_Pgs, sw_Pgs_Shp, sw_Pgs_Rck, sw_Pgs_Mes, sw_Pgs_Now, sw_Pgs_Und, sw_Pgs_Txt, sw_Pgs_Rul, sw_Pgs_Sts] at q3
      exact ok_some ⟨rfl, q3, (FF.tr0 (F2.rsm (by decide))).tr0 (F3.rsm (by decide))⟩
    · rw [if_neg (fun q => c2 q.2), if_neg (fun q => c2 q.2)]
      simp (disch := omega) only [vl_s, bp_s, bd_s, bv_s, i32_nl, i32_n, i32_add, i32_sub, i32_mul, i32_neg, i32_ca, i32_cm, i32_cs, i32_cn, i32_le, i32_lt, i32_eq, i32_cl, Int.toNat_natCast, if_pos, if_neg, ite_true, ite_false, not_true_eq_false, not_false_eq_true, Nat.add_zero, Nat.zero_add, Nat.add_sub_cancel, ck_p, cko_si, cka_si, cko_sl, cka_sl, gi_e, gi_x, gl_e, gl_x, gr_si, gl_si, gi_sl, gr_sl, X3_inI, X1_inI, i32_64, b01_i0, b01_i1, i64_m1, i64_0, i64_1, i64_2, i64_3, i64_8, i64_9, i64_10, i64_12, i64_15, i64_18, i64_20, i64_24, i64_30, i64_39, i64_48, i64_57, i64_60, i64_99, i64_100, i64_999, i64_99999, cko_c hm1.k (show 3 ∈ [3] by decide), dr_c hm1.r2, dr_c hm1.r9, dr_c hm1.r10, dr_c hm1.r11, dr_c hm1.r12, dr_c hm1.r13, dr_c hm1.r14, dr_c hm1.r15, dr_c hm1.r16, dr_c hm1.r21, dr_c hm1.r23, dr_c hm1.r24, dr_c hm1.r27, dr_c hm1.r28, dr_c hm1.r30, dr_c hm1.r33, dr_c hm1.r34, dr_c hm1.r36, dr_c hm1.r37, dr_c hm1.r38, dr_c hm1.r41, dr_c hm1.r43, dr_c hm1.r44, dr_c hm1.r45, dr_c hm1.r46, dr_c hm1.r47, dr_c hm1.r50, dr_c hm1.r51, dr_c hm1.r52, cka_i hm1.k162 hm1.l162, cka_i hm1.k163 hm1.l163, cka_i hm1.k164 hm1.l164, cka_i hm1.k165 hm1.l165, cka_i hm1.k166 hm1.l166, cka_i hm1.k167 hm1.l167, cka_i hm1.k168 hm1.l168, cka_i hm1.k169 hm1.l169, cka_i hm1.k170 hm1.l170, cka_i hm1.k171 hm1.l171, cka_i hm1.k172 hm1.l172, cka_i hm1.k173 hm1.l173, cka_i hm1.k174 hm1.l174, cka_i hm1.k175 hm1.l175, cka_i hm1.k176 hm1.l176, cka_i hm1.k177 hm1.l177, cka_i hm1.k178 hm1.l178, cka_i hm1.k179 hm1.l179, cka_i hm1.k180 hm1.l180, cka_i hm1.k181 hm1.l181, cka_i hm1.k182 hm1.l182, cka_i hm1.k183 hm1.l183, cka_i hm1.k184 hm1.l184, cka_i hm1.k185 hm1.l185, cka_i hm1.k186 hm1.l186, cka_i hm1.k187 hm1.l187, cka_i hm1.k188 hm1.l188, cka_i hm1.k189 hm1.l189, cka_i hm1.k190 hm1.l190, X3_isM hm1 e7 g8]
      refine ok_bd (M_counts q1 g.und g.now w1 (by omega) (by omega)) ?_
      rintro x σ3 ⟨rfl, q3, F3⟩
      rw [if_neg (by omega)] at q3
      exact ok_some ⟨rfl, q3, FF.tr0 (F3.rsm (by decide))⟩
  · rw [if_neg (fun q => c1 q.1), if_neg (fun q => c1 q.1)]
    simp (disch := omega) only [vl_s, bp_s, bd_s, bv_s, i32_nl, i32_n, i32_add, i32_sub, i32_mul, i32_neg, i32_ca, i32_cm, i32_cs, i32_cn, i32_le, i32_lt, i32_eq, i32_cl, Int.toNat_natCast, if_pos, if_neg, ite_true, ite_false, not_true_eq_false, not_false_eq_true, Nat.add_zero, Nat.zero_add, Nat.add_sub_cancel, ck_p, cko_si, cka_si, cko_sl, cka_sl, gi_e, gi_x, gl_e, gl_x, gr_si, gl_si, gi_sl, gr_sl, X3_inI, X1_inI, i32_64, b01_i0, b01_i1, i64_m1, i64_0, i64_1, i64_2, i64_3, i64_8, i64_9, i64_10, i64_12, i64_15, i64_18, i64_20, i64_24, i64_30, i64_39, i64_48, i64_57, i64_60, i64_99, i64_100, i64_999, i64_99999, cko_c hm1.k (show 3 ∈ [3] by decide), dr_c hm1.r2, dr_c hm1.r9, dr_c hm1.r10, dr_c hm1.r11, dr_c hm1.r12, dr_c hm1.r13, dr_c hm1.r14, dr_c hm1.r15, dr_c hm1.r16, dr_c hm1.r21, dr_c hm1.r23, dr_c hm1.r24, dr_c hm1.r27, dr_c hm1.r28, dr_c hm1.r30, dr_c hm1.r33, dr_c hm1.r34, dr_c hm1.r36, dr_c hm1.r37, dr_c hm1.r38, dr_c hm1.r41, dr_c hm1.r43, dr_c hm1.r44, dr_c hm1.r45, dr_c hm1.r46, dr_c hm1.r47, dr_c hm1.r50, dr_c hm1.r51, dr_c hm1.r52, cka_i hm1.k162 hm1.l162, cka_i hm1.k163 hm1.l163, cka_i hm1.k164 hm1.l164, cka_i hm1.k165 hm1.l165, cka_i hm1.k166 hm1.l166, cka_i hm1.k167 hm1.l167, cka_i hm1.k168 hm1.l168, cka_i hm1.k169 hm1.l169, cka_i hm1.k170 hm1.l170, cka_i hm1.k171 hm1.l171, cka_i hm1.k172 hm1.l172, cka_i hm1.k173 hm1.l173, cka_i hm1.k174 hm1.l174, cka_i hm1.k175 hm1.l175, cka_i hm1.k176 hm1.l176, cka_i hm1.k177 hm1.l177, cka_i hm1.k178 hm1.l178, cka_i hm1.k179 hm1.l179, cka_i hm1.k180 hm1.l180, cka_i hm1.k181 hm1.l181, cka_i hm1.k182 hm1.l182, cka_i hm1.k183 hm1.l183, cka_i hm1.k184 hm1.l184, cka_i hm1.k185 hm1.l185, cka_i hm1.k186 hm1.l186, cka_i hm1.k187 hm1.l187, cka_i hm1.k188 hm1.l188, cka_i hm1.k189 hm1.l189, cka_i hm1.k190 hm1.l190, X3_isM hm1 e7 g8]
    refine ok_bd (M_counts q1 g.und g.now w1 (by omega) (by omega)) ?_
    rintro x σ3 ⟨rfl, q3, F3⟩
    rw [if_neg (by omega)] at q3
    exact ok_some ⟨rfl, q3, FF.tr0 (F3.rsm (by decide))⟩
