/-! THE MODEL'S ACTS: late orders, what comes, the safest lane -/
set_option maxRecDepth 100000
def rowsF (S : St) (f : Nat → Int) : Nat → St
  | 0 => row0 S
  | i + 1 => rowA (rowsF S f i) (Int32.toInt64 (i32 (f i)))
theorem rowsF_row (S : St) (f : Nat → Int) : ∀ i, (rowsF S f i).row.1 = i
  | 0 => rfl
  | i + 1 => by
    show (rowsF S f i).row.1 + 1 = i + 1
    rw [rowsF_row S f i]
theorem FM_174 {σ σ' : vMem} (F : Fr (fun b _ => b ≠ 174 ∧ b ≠ 175) 0 0 σ σ') : Fr (KM [0]) 0 0 σ σ' := F.mono (fun b j q => ⟨fun e => q (by subst e; rw [show reg 174 j = 0 from rfl]; decide), fun e => q (by subst e; rw [show reg 175 j = 0 from rfl]; decide)⟩)
def doneF (S : St) (t : Nat) : Int := t + dly S (S.now.now + t)
def lateQ (S : St) (t : Nat) : Nat → Bool
  | 0 => false
  | i + 1 => lateQ S t i || decide (t < i ∧ doneF S i < doneF S t)
theorem lateQ_0 (S : St) (t : Nat) : ∀ i, i ≤ t + 1 → lateQ S t i = false
  | 0, _ => rfl
  | i + 1, h => by
    unfold lateQ
    rw [lateQ_0 S t i (by omega), Bool.false_or]
    exact decide_eq_false (fun q => by omega)
def aLate (S : St) (n : Int) : Int := if 1 ≤ n ∧ n ≤ 30 then sumN (fun t => if lateQ S t n.toNat then 1 else 0) n.toNat else -1
def nLate (S : St) (n : Int) : St := if 1 ≤ n ∧ n ≤ 30 then rowsF S (doneF S) n.toNat else S
theorem dly_rowsF (S : St) (f : Nat → Int) (s : Int) : ∀ i, dly (rowsF S f i) s = dly S s
  | 0 => rfl
  | i + 1 => dly_rowsF S f s i
theorem now_rowsF (S : St) (f : Nat → Int) : ∀ i, (rowsF S f i).now = S.now
  | 0 => rfl
  | i + 1 => now_rowsF S f i
theorem g_row {B : Int} {S : St} {r : Row} (g : gSt B S) (h : r.1 ≤ 40) : gSt B (S.wRow r) := ⟨g.shp, g.rck, g.mes, g.now, g.und, g.txt, h, g.rul, g.sts, g.pgs⟩
theorem g_row0 {B : Int} {S : St} (g : gSt B S) : gSt B (row0 S) := g_row g (Nat.zero_le _)
theorem g_rowA {B : Int} {S : St} {v : Int64} (g : gSt B S) (h : S.row.1 < 40) : gSt B (rowA S v) := g_row g h
theorem g_rowsF {B : Int} {S : St} {f : Nat → Int} (g : gSt B S) : ∀ i, i ≤ 40 → gSt B (rowsF S f i)
  | 0, _ => g_row0 g
  | i + 1, h => g_rowA (g_rowsF g i (by omega)) (by rw [rowsF_row]; omega)
theorem M_late57 {S T : St} {σ : vMem} {B : Int} {n t : Nat} {v2 : Int32} {K : vMem → Int32 → Option (Int32 × vMem)} {Q : Int32 × vMem → Prop} (h : RM T σ) (g : gSt B T) (hT : T.now = S.now) (hD : ∀ s, dly T s = dly S s) (hB : B ≤ 900000) (hn : n ≤ 30) (ht : t < n) (hK : ∀ σ1, RM T σ1 → Fr (KM [0]) 0 0 σ σ1 → ok (K σ1 (if lateQ S t n then i32 ((1 : Nat) : Int) else i32 ((0 : Nat) : Int))) Q) : ok (f_X3_late_57 161 (i32 n) v2 (i32 t) (i32 (doneF S t)) K FU σ (i32 ((0 : Nat) : Int)) (i32 (t + 1 : Nat))) Q := by
  refine loop3 (F := f_X3_late_57 161 (i32 n) v2 (i32 t) (i32 (doneF S t)) K) (n - (t + 1)) (fun i σ1 v x => x = i32 (t + 1 + i : Nat) ∧ v = (if lateQ S t (t + 1 + i) then i32 ((1 : Nat) : Int) else i32 ((0 : Nat) : Int)) ∧ RM T σ1 ∧ Fr (KM [0]) 0 0 σ σ1) ?_ FU 0 _ _ _ (by omega) ⟨rfl, by rw [lateQ_0 S t _ (by omega)]; rfl, h, Fr.rf⟩ (by unfold FU; omega)
  rintro m i σ1 v x hi ⟨rfl, rfl, h1, F1⟩ IH
  have hm1 := h1.ml
  have e0 : gi σ1 168 0 = i32 S.now.now := by have := h1.now.1; rw [hT] at this; exact this
  have gn := g.now
  rw [hT] at gn
  obtain ⟨⟨g1, g2, g3⟩, g4⟩ := gn
  have db := dly_b S (S.now.now + (t + 1 + i : Nat))
  have db2 := dly_b S (S.now.now + t)
  have dd : doneF S t = t + dly S (S.now.now + t) := rfl
  rw [f_X3_late_57.eq_2]
  by_cases c : i < n - (t + 1)
  · cases hq : lateQ S t (t + 1 + i) with
    | true =>
      have e1 : lateQ S t (t + 1 + (i + 1)) = true := by
        show (lateQ S t (t + 1 + i) || _) = true
        rw [hq]; rfl
      simp only [if_true]
      (try simp (disch := omega) only [vl_s, bp_s, bd_s, bv_s, i32_nl, i32_n, i32_add, i32_sub, i32_mul, i32_neg, i32_ca, i32_cm, i32_cs, i32_cn, i32_le, i32_lt, i32_eq, i32_cl, Int.toNat_natCast, if_pos, if_neg, ite_true, ite_false, not_true_eq_false, not_false_eq_true, Nat.add_zero, Nat.zero_add, Nat.add_sub_cancel, ck_p, cko_si, cka_si, cko_sl, cka_sl, gi_e, gi_x, gl_e, gl_x, gr_si, gl_si, gi_sl, gr_sl, cko_c hm1.k (show 3 ∈ [3] by decide), dr_c hm1.r2, dr_c hm1.r9, dr_c hm1.r10, dr_c hm1.r11, dr_c hm1.r12, dr_c hm1.r13, dr_c hm1.r14, dr_c hm1.r15, dr_c hm1.r16, dr_c hm1.r21, dr_c hm1.r23, dr_c hm1.r24, dr_c hm1.r27, dr_c hm1.r28, dr_c hm1.r30, dr_c hm1.r33, dr_c hm1.r34, dr_c hm1.r36, dr_c hm1.r37, dr_c hm1.r38, dr_c hm1.r41, dr_c hm1.r43, dr_c hm1.r44, dr_c hm1.r45, dr_c hm1.r46, dr_c hm1.r47, dr_c hm1.r50, dr_c hm1.r51, dr_c hm1.r52, cka_i hm1.k162 hm1.l162, cka_i hm1.k163 hm1.l163, cka_i hm1.k164 hm1.l164, cka_i hm1.k165 hm1.l165, cka_i hm1.k166 hm1.l166, cka_i hm1.k167 hm1.l167, cka_i hm1.k168 hm1.l168, cka_i hm1.k169 hm1.l169, cka_i hm1.k170 hm1.l170, cka_i hm1.k171 hm1.l171, cka_i hm1.k172 hm1.l172, cka_i hm1.k173 hm1.l173, cka_i hm1.k174 hm1.l174, cka_i hm1.k175 hm1.l175, cka_i hm1.k176 hm1.l176, cka_i hm1.k177 hm1.l177, cka_i hm1.k178 hm1.l178, cka_i hm1.k179 hm1.l179, cka_i hm1.k180 hm1.l180, cka_i hm1.k181 hm1.l181, cka_i hm1.k182 hm1.l182, cka_i hm1.k183 hm1.l183, cka_i hm1.k184 hm1.l184, cka_i hm1.k185 hm1.l185, cka_i hm1.k186 hm1.l186, cka_i hm1.k187 hm1.l187, cka_i hm1.k188 hm1.l188, cka_i hm1.k189 hm1.l189, cka_i hm1.k190 hm1.l190])
      exact IH c _ _ _ ⟨rfl, by rw [e1]; rfl, h1, F1⟩
    | false =>
      simp only [Bool.false_eq_true, if_false]
      (try simp (disch := omega) only [vl_s, bp_s, bd_s, bv_s, i32_nl, i32_n, i32_add, i32_sub, i32_mul, i32_neg, i32_ca, i32_cm, i32_cs, i32_cn, i32_le, i32_lt, i32_eq, i32_cl, Int.toNat_natCast, if_pos, if_neg, ite_true, ite_false, not_true_eq_false, not_false_eq_true, Nat.add_zero, Nat.zero_add, Nat.add_sub_cancel, ck_p, cko_si, cka_si, cko_sl, cka_sl, gi_e, gi_x, gl_e, gl_x, gr_si, gl_si, gi_sl, gr_sl, cko_c hm1.k (show 3 ∈ [3] by decide), dr_c hm1.r2, dr_c hm1.r9, dr_c hm1.r10, dr_c hm1.r11, dr_c hm1.r12, dr_c hm1.r13, dr_c hm1.r14, dr_c hm1.r15, dr_c hm1.r16, dr_c hm1.r21, dr_c hm1.r23, dr_c hm1.r24, dr_c hm1.r27, dr_c hm1.r28, dr_c hm1.r30, dr_c hm1.r33, dr_c hm1.r34, dr_c hm1.r36, dr_c hm1.r37, dr_c hm1.r38, dr_c hm1.r41, dr_c hm1.r43, dr_c hm1.r44, dr_c hm1.r45, dr_c hm1.r46, dr_c hm1.r47, dr_c hm1.r50, dr_c hm1.r51, dr_c hm1.r52, cka_i hm1.k162 hm1.l162, cka_i hm1.k163 hm1.l163, cka_i hm1.k164 hm1.l164, cka_i hm1.k165 hm1.l165, cka_i hm1.k166 hm1.l166, cka_i hm1.k167 hm1.l167, cka_i hm1.k168 hm1.l168, cka_i hm1.k169 hm1.l169, cka_i hm1.k170 hm1.l170, cka_i hm1.k171 hm1.l171, cka_i hm1.k172 hm1.l172, cka_i hm1.k173 hm1.l173, cka_i hm1.k174 hm1.l174, cka_i hm1.k175 hm1.l175, cka_i hm1.k176 hm1.l176, cka_i hm1.k177 hm1.l177, cka_i hm1.k178 hm1.l178, cka_i hm1.k179 hm1.l179, cka_i hm1.k180 hm1.l180, cka_i hm1.k181 hm1.l181, cka_i hm1.k182 hm1.l182, cka_i hm1.k183 hm1.l183, cka_i hm1.k184 hm1.l184, cka_i hm1.k185 hm1.l185, cka_i hm1.k186 hm1.l186, cka_i hm1.k187 hm1.l187, cka_i hm1.k188 hm1.l188, cka_i hm1.k189 hm1.l189, cka_i hm1.k190 hm1.l190, e0])
      refine ok_bd (M_delayAt (s := S.now.now + (t + 1 + i : Nat)) h1 g (by omega) (by omega)) ?_
      rw [hD]
      rintro y σ2 ⟨rfl, h2, F2⟩
      have F2' := F1.tr0 (FM_174 F2)
      have e1 : lateQ S t (t + 1 + (i + 1)) = decide (doneF S (t + 1 + i) < doneF S t) := by
        show (lateQ S t (t + 1 + i) || decide (t < t + 1 + i ∧ _)) = _
        rw [hq, Bool.false_or, decide_eq_decide]
        exact ⟨fun q => q.2, fun q => ⟨by omega, q⟩⟩
      have dd2 : doneF S (t + 1 + i) = (t + 1 + i : Nat) + dly S (S.now.now + (t + 1 + i : Nat)) := rfl
      by_cases d : doneF S (t + 1 + i) < doneF S t
      · (try simp (disch := omega) only [vl_s, bp_s, bd_s, bv_s, i32_nl, i32_n, i32_add, i32_sub, i32_mul, i32_neg, i32_ca, i32_cm, i32_cs, i32_cn, i32_le, i32_lt, i32_eq, i32_cl, Int.toNat_natCast, if_pos, if_neg, ite_true, ite_false, not_true_eq_false, not_false_eq_true, Nat.add_zero, Nat.zero_add, Nat.add_sub_cancel, ck_p, cko_si, cka_si, cko_sl, cka_sl, gi_e, gi_x, gl_e, gl_x, gr_si, gl_si, gi_sl, gr_sl])
        exact IH c _ _ _ ⟨rfl, by rw [e1, decide_eq_true d]; rfl, h2, F2'⟩
      · (try simp (disch := omega) only [vl_s, bp_s, bd_s, bv_s, i32_nl, i32_n, i32_add, i32_sub, i32_mul, i32_neg, i32_ca, i32_cm, i32_cs, i32_cn, i32_le, i32_lt, i32_eq, i32_cl, Int.toNat_natCast, if_pos, if_neg, ite_true, ite_false, not_true_eq_false, not_false_eq_true, Nat.add_zero, Nat.zero_add, Nat.add_sub_cancel, ck_p, cko_si, cka_si, cko_sl, cka_sl, gi_e, gi_x, gl_e, gl_x, gr_si, gl_si, gi_sl, gr_sl])
        exact IH c _ _ _ ⟨rfl, by rw [e1, decide_eq_false d]; rfl, h2, F2'⟩
  · have e : t + 1 + i = n := by omega
    rw [e]
    (try simp (disch := omega) only [vl_s, bp_s, bd_s, bv_s, i32_nl, i32_n, i32_add, i32_sub, i32_mul, i32_neg, i32_ca, i32_cm, i32_cs, i32_cn, i32_le, i32_lt, i32_eq, i32_cl, Int.toNat_natCast, if_pos, if_neg, ite_true, ite_false, not_true_eq_false, not_false_eq_true, Nat.add_zero, Nat.zero_add, Nat.add_sub_cancel, ck_p, cko_si, cka_si, cko_sl, cka_sl, gi_e, gi_x, gl_e, gl_x, gr_si, gl_si, gi_sl, gr_sl])
    exact hK σ1 h1 F1
theorem M_late {S : St} {σ : vMem} {B n : Int} (h : RM S σ) (g : gSt B S) (hB : B ≤ 900000) (h1 : -2147483648 ≤ n) (h2 : n < 2147483648) : ok (f_X3_late σ 161 (i32 n)) (fun r => r.1 = i32 (aLate S n) ∧ RM (nLate S n) r.2 ∧ FM σ r.2) := by
  have hm := h.ml
  have q0 := M_thrown h (i32 ((0 : Nat) : Int))
  generalize hQ : (fun r : Int32 × vMem => r.1 = i32 (aLate S n) ∧ RM (nLate S n) r.2 ∧ FM σ r.2) = Q
  unfold f_X3_late
  by_cases c : 1 ≤ n ∧ n ≤ 30
  · obtain ⟨k, rfl⟩ : ∃ k : Nat, n = k := ⟨n.toNat, by omega⟩
    (try simp (disch := omega) only [vl_s, bp_s, bd_s, bv_s, i32_nl, i32_n, i32_add, i32_sub, i32_mul, i32_neg, i32_ca, i32_cm, i32_cs, i32_cn, i32_le, i32_lt, i32_eq, i32_cl, Int.toNat_natCast, if_pos, if_neg, ite_true, ite_false, not_true_eq_false, not_false_eq_true, Nat.add_zero, Nat.zero_add, Nat.add_sub_cancel, ck_p, cko_si, cka_si, cko_sl, cka_sl, gi_e, gi_x, gl_e, gl_x, gr_si, gl_si, gi_sl, gr_sl, cko_c hm.k (show 3 ∈ [3] by decide), dr_c hm.r2, dr_c hm.r9, dr_c hm.r10, dr_c hm.r11, dr_c hm.r12, dr_c hm.r13, dr_c hm.r14, dr_c hm.r15, dr_c hm.r16, dr_c hm.r21, dr_c hm.r23, dr_c hm.r24, dr_c hm.r27, dr_c hm.r28, dr_c hm.r30, dr_c hm.r33, dr_c hm.r34, dr_c hm.r36, dr_c hm.r37, dr_c hm.r38, dr_c hm.r41, dr_c hm.r43, dr_c hm.r44, dr_c hm.r45, dr_c hm.r46, dr_c hm.r47, dr_c hm.r50, dr_c hm.r51, dr_c hm.r52, cka_i hm.k162 hm.l162, cka_i hm.k163 hm.l163, cka_i hm.k164 hm.l164, cka_i hm.k165 hm.l165, cka_i hm.k166 hm.l166, cka_i hm.k167 hm.l167, cka_i hm.k168 hm.l168, cka_i hm.k169 hm.l169, cka_i hm.k170 hm.l170, cka_i hm.k171 hm.l171, cka_i hm.k172 hm.l172, cka_i hm.k173 hm.l173, cka_i hm.k174 hm.l174, cka_i hm.k175 hm.l175, cka_i hm.k176 hm.l176, cka_i hm.k177 hm.l177, cka_i hm.k178 hm.l178, cka_i hm.k179 hm.l179, cka_i hm.k180 hm.l180, cka_i hm.k181 hm.l181, cka_i hm.k182 hm.l182, cka_i hm.k183 hm.l183, cka_i hm.k184 hm.l184, cka_i hm.k185 hm.l185, cka_i hm.k186 hm.l186, cka_i hm.k187 hm.l187, cka_i hm.k188 hm.l188, cka_i hm.k189 hm.l189, cka_i hm.k190 hm.l190, X3_inI, X1_inI, i32_64, b01_i0, b01_i1, i64_m1, i64_0, i64_1, i64_2, i64_3, i64_8, i64_9, i64_10, i64_12, i64_15, i64_18, i64_20, i64_24, i64_30, i64_39, i64_48, i64_57, i64_60, i64_99, i64_100, i64_999, i64_99999])
    refine loop3 (F := f_X3_late_28 161 (i32 k)) k (fun i σ1 v2 v3 => v3 = i32 i ∧ v2 = i32 (sumN (fun t => if lateQ S t k then 1 else 0) i) ∧ RM (rowsF S (doneF S) i) σ1 ∧ FM σ σ1) ?_ FU 0 _ _ _ (by omega) ⟨rfl, rfl, M_row0 q0, FM_thrown.tr0 (F_row0.rsm (by decide))⟩ (by unfold FU; omega)
    rintro m i σ1 v2 v3 hi ⟨rfl, rfl, q1, F1⟩ IH
    have hm1 := q1.ml
    have e0 : gi σ1 168 0 = i32 S.now.now := by have := q1.now.1; rw [now_rowsF] at this; exact this
    have gg := g_rowsF (f := doneF S) g i (by omega)
    have hr := rowsF_row S (doneF S) i
    have hD := fun s => dly_rowsF S (doneF S) s i
    obtain ⟨⟨g1, g2, g3⟩, g4⟩ := g.now
    have db := dly_b S (S.now.now + i)
    have dd : doneF S i = i + dly S (S.now.now + i) := rfl
    rw [f_X3_late_28.eq_2]
    by_cases d : i < k
    · (try simp (disch := omega) only [vl_s, bp_s, bd_s, bv_s, i32_nl, i32_n, i32_add, i32_sub, i32_mul, i32_neg, i32_ca, i32_cm, i32_cs, i32_cn, i32_le, i32_lt, i32_eq, i32_cl, Int.toNat_natCast, if_pos, if_neg, ite_true, ite_false, not_true_eq_false, not_false_eq_true, Nat.add_zero, Nat.zero_add, Nat.add_sub_cancel, ck_p, cko_si, cka_si, cko_sl, cka_sl, gi_e, gi_x, gl_e, gl_x, gr_si, gl_si, gi_sl, gr_sl, cko_c hm1.k (show 3 ∈ [3] by decide), dr_c hm1.r2, dr_c hm1.r9, dr_c hm1.r10, dr_c hm1.r11, dr_c hm1.r12, dr_c hm1.r13, dr_c hm1.r14, dr_c hm1.r15, dr_c hm1.r16, dr_c hm1.r21, dr_c hm1.r23, dr_c hm1.r24, dr_c hm1.r27, dr_c hm1.r28, dr_c hm1.r30, dr_c hm1.r33, dr_c hm1.r34, dr_c hm1.r36, dr_c hm1.r37, dr_c hm1.r38, dr_c hm1.r41, dr_c hm1.r43, dr_c hm1.r44, dr_c hm1.r45, dr_c hm1.r46, dr_c hm1.r47, dr_c hm1.r50, dr_c hm1.r51, dr_c hm1.r52, cka_i hm1.k162 hm1.l162, cka_i hm1.k163 hm1.l163, cka_i hm1.k164 hm1.l164, cka_i hm1.k165 hm1.l165, cka_i hm1.k166 hm1.l166, cka_i hm1.k167 hm1.l167, cka_i hm1.k168 hm1.l168, cka_i hm1.k169 hm1.l169, cka_i hm1.k170 hm1.l170, cka_i hm1.k171 hm1.l171, cka_i hm1.k172 hm1.l172, cka_i hm1.k173 hm1.l173, cka_i hm1.k174 hm1.l174, cka_i hm1.k175 hm1.l175, cka_i hm1.k176 hm1.l176, cka_i hm1.k177 hm1.l177, cka_i hm1.k178 hm1.l178, cka_i hm1.k179 hm1.l179, cka_i hm1.k180 hm1.l180, cka_i hm1.k181 hm1.l181, cka_i hm1.k182 hm1.l182, cka_i hm1.k183 hm1.l183, cka_i hm1.k184 hm1.l184, cka_i hm1.k185 hm1.l185, cka_i hm1.k186 hm1.l186, cka_i hm1.k187 hm1.l187, cka_i hm1.k188 hm1.l188, cka_i hm1.k189 hm1.l189, cka_i hm1.k190 hm1.l190, e0])
      refine ok_bd (M_delayAt (s := S.now.now + i) q1 gg (by omega) (by omega)) ?_
      rw [hD]
      rintro y σ2 ⟨rfl, q2, F2⟩
      have F2' := F1.tr0 ((FM_174 F2).rsm (by decide))
      rw [i32_add, ← dd]
      refine M_late57 q2 gg (now_rowsF S (doneF S) i) hD hB (by omega) d (fun σ3 q3 F3 => ?_)
      have hm3 := q3.ml
      have F3' := F2'.tr0 (F3.rsm (by decide))
      have fin : ∀ z : Int, sumN (fun t => if lateQ S t k = true then 1 else 0) (i + 1) = sumN (fun t => if lateQ S t k = true then 1 else 0) i + z → ok (bv (f_X3_enters σ3 161 (Int32.toInt64 (i32 (doneF S i)))) (fun σ_6 => f_X3_late_28 161 (i32 k) m σ_6 (i32 (sumN (fun t => if lateQ S t k = true then 1 else 0) i + z)) (i32 (i + 1 : Nat)))) Q := by
        intro z ez
        refine ok_bv (M_enters q3 (by omega) _) ?_
        rintro σ4 ⟨q4, F4⟩
        exact IH d _ _ _ ⟨rfl, by rw [ez], q4, F3'.tr0 (F4.rsm (by decide))⟩
      cases hq : lateQ S i k with
      | true =>
        simp only [if_true]
        (try simp (disch := omega) only [vl_s, bp_s, bd_s, bv_s, i32_nl, i32_n, i32_add, i32_sub, i32_mul, i32_neg, i32_ca, i32_cm, i32_cs, i32_cn, i32_le, i32_lt, i32_eq, i32_cl, Int.toNat_natCast, if_pos, if_neg, ite_true, ite_false, not_true_eq_false, not_false_eq_true, Nat.add_zero, Nat.zero_add, Nat.add_sub_cancel, ck_p, cko_si, cka_si, cko_sl, cka_sl, gi_e, gi_x, gl_e, gl_x, gr_si, gl_si, gi_sl, gr_sl, cko_c hm3.k (show 3 ∈ [3] by decide), dr_c hm3.r2, dr_c hm3.r9, dr_c hm3.r10, dr_c hm3.r11, dr_c hm3.r12, dr_c hm3.r13, dr_c hm3.r14, dr_c hm3.r15, dr_c hm3.r16, dr_c hm3.r21, dr_c hm3.r23, dr_c hm3.r24, dr_c hm3.r27, dr_c hm3.r28, dr_c hm3.r30, dr_c hm3.r33, dr_c hm3.r34, dr_c hm3.r36, dr_c hm3.r37, dr_c hm3.r38, dr_c hm3.r41, dr_c hm3.r43, dr_c hm3.r44, dr_c hm3.r45, dr_c hm3.r46, dr_c hm3.r47, dr_c hm3.r50, dr_c hm3.r51, dr_c hm3.r52, cka_i hm3.k162 hm3.l162, cka_i hm3.k163 hm3.l163, cka_i hm3.k164 hm3.l164, cka_i hm3.k165 hm3.l165, cka_i hm3.k166 hm3.l166, cka_i hm3.k167 hm3.l167, cka_i hm3.k168 hm3.l168, cka_i hm3.k169 hm3.l169, cka_i hm3.k170 hm3.l170, cka_i hm3.k171 hm3.l171, cka_i hm3.k172 hm3.l172, cka_i hm3.k173 hm3.l173, cka_i hm3.k174 hm3.l174, cka_i hm3.k175 hm3.l175, cka_i hm3.k176 hm3.l176, cka_i hm3.k177 hm3.l177, cka_i hm3.k178 hm3.l178, cka_i hm3.k179 hm3.l179, cka_i hm3.k180 hm3.l180, cka_i hm3.k181 hm3.l181, cka_i hm3.k182 hm3.l182, cka_i hm3.k183 hm3.l183, cka_i hm3.k184 hm3.l184, cka_i hm3.k185 hm3.l185, cka_i hm3.k186 hm3.l186, cka_i hm3.k187 hm3.l187, cka_i hm3.k188 hm3.l188, cka_i hm3.k189 hm3.l189, cka_i hm3.k190 hm3.l190, X3_flag1])
        exact fin 1 (by show _ + (if lateQ S i k = true then 1 else 0) = _; rw [hq]; rfl)
      | false =>
        simp only [Bool.false_eq_true, if_false]
        (try simp (disch := omega) only [vl_s, bp_s, bd_s, bv_s, i32_nl, i32_n, i32_add, i32_sub, i32_mul, i32_neg, i32_ca, i32_cm, i32_cs, i32_cn, i32_le, i32_lt, i32_eq, i32_cl, Int.toNat_natCast, if_pos, if_neg, ite_true, ite_false, not_true_eq_false, not_false_eq_true, Nat.add_zero, Nat.zero_add, Nat.add_sub_cancel, ck_p, cko_si, cka_si, cko_sl, cka_sl, gi_e, gi_x, gl_e, gl_x, gr_si, gl_si, gi_sl, gr_sl, cko_c hm3.k (show 3 ∈ [3] by decide), dr_c hm3.r2, dr_c hm3.r9, dr_c hm3.r10, dr_c hm3.r11, dr_c hm3.r12, dr_c hm3.r13, dr_c hm3.r14, dr_c hm3.r15, dr_c hm3.r16, dr_c hm3.r21, dr_c hm3.r23, dr_c hm3.r24, dr_c hm3.r27, dr_c hm3.r28, dr_c hm3.r30, dr_c hm3.r33, dr_c hm3.r34, dr_c hm3.r36, dr_c hm3.r37, dr_c hm3.r38, dr_c hm3.r41, dr_c hm3.r43, dr_c hm3.r44, dr_c hm3.r45, dr_c hm3.r46, dr_c hm3.r47, dr_c hm3.r50, dr_c hm3.r51, dr_c hm3.r52, cka_i hm3.k162 hm3.l162, cka_i hm3.k163 hm3.l163, cka_i hm3.k164 hm3.l164, cka_i hm3.k165 hm3.l165, cka_i hm3.k166 hm3.l166, cka_i hm3.k167 hm3.l167, cka_i hm3.k168 hm3.l168, cka_i hm3.k169 hm3.l169, cka_i hm3.k170 hm3.l170, cka_i hm3.k171 hm3.l171, cka_i hm3.k172 hm3.l172, cka_i hm3.k173 hm3.l173, cka_i hm3.k174 hm3.l174, cka_i hm3.k175 hm3.l175, cka_i hm3.k176 hm3.l176, cka_i hm3.k177 hm3.l177, cka_i hm3.k178 hm3.l178, cka_i hm3.k179 hm3.l179, cka_i hm3.k180 hm3.l180, cka_i hm3.k181 hm3.l181, cka_i hm3.k182 hm3.l182, cka_i hm3.k183 hm3.l183, cka_i hm3.k184 hm3.l184, cka_i hm3.k185 hm3.l185, cka_i hm3.k186 hm3.l186, cka_i hm3.k187 hm3.l187, cka_i hm3.k188 hm3.l188, cka_i hm3.k189 hm3.l189, cka_i hm3.k190 hm3.l190, X3_flag0])
        exact fin 0 (by show _ + (if lateQ S i k = true then 1 else 0) = _; rw [hq]; rfl)
    · have : i = k := by omega
      subst this
      (try simp (disch := omega) only [vl_s, bp_s, bd_s, bv_s, i32_nl, i32_n, i32_add, i32_sub, i32_mul, i32_neg, i32_ca, i32_cm, i32_cs, i32_cn, i32_le, i32_lt, i32_eq, i32_cl, Int.toNat_natCast, if_pos, if_neg, ite_true, ite_false, not_true_eq_false, not_false_eq_true, Nat.add_zero, Nat.zero_add, Nat.add_sub_cancel, ck_p, cko_si, cka_si, cko_sl, cka_sl, gi_e, gi_x, gl_e, gl_x, gr_si, gl_si, gi_sl, gr_sl])
      rw [← hQ]
      unfold aLate nLate
      rw [if_pos c, if_pos c, Int.toNat_natCast]
      exact ok_some ⟨rfl, q1, F1⟩
  · (try simp (disch := omega) only [vl_s, bp_s, bd_s, bv_s, i32_nl, i32_n, i32_add, i32_sub, i32_mul, i32_neg, i32_ca, i32_cm, i32_cs, i32_cn, i32_le, i32_lt, i32_eq, i32_cl, Int.toNat_natCast, if_pos, if_neg, ite_true, ite_false, not_true_eq_false, not_false_eq_true, Nat.add_zero, Nat.zero_add, Nat.add_sub_cancel, ck_p, cko_si, cka_si, cko_sl, cka_sl, gi_e, gi_x, gl_e, gl_x, gr_si, gl_si, gi_sl, gr_sl, cko_c hm.k (show 3 ∈ [3] by decide), dr_c hm.r2, dr_c hm.r9, dr_c hm.r10, dr_c hm.r11, dr_c hm.r12, dr_c hm.r13, dr_c hm.r14, dr_c hm.r15, dr_c hm.r16, dr_c hm.r21, dr_c hm.r23, dr_c hm.r24, dr_c hm.r27, dr_c hm.r28, dr_c hm.r30, dr_c hm.r33, dr_c hm.r34, dr_c hm.r36, dr_c hm.r37, dr_c hm.r38, dr_c hm.r41, dr_c hm.r43, dr_c hm.r44, dr_c hm.r45, dr_c hm.r46, dr_c hm.r47, dr_c hm.r50, dr_c hm.r51, dr_c hm.r52, cka_i hm.k162 hm.l162, cka_i hm.k163 hm.l163, cka_i hm.k164 hm.l164, cka_i hm.k165 hm.l165, cka_i hm.k166 hm.l166, cka_i hm.k167 hm.l167, cka_i hm.k168 hm.l168, cka_i hm.k169 hm.l169, cka_i hm.k170 hm.l170, cka_i hm.k171 hm.l171, cka_i hm.k172 hm.l172, cka_i hm.k173 hm.l173, cka_i hm.k174 hm.l174, cka_i hm.k175 hm.l175, cka_i hm.k176 hm.l176, cka_i hm.k177 hm.l177, cka_i hm.k178 hm.l178, cka_i hm.k179 hm.l179, cka_i hm.k180 hm.l180, cka_i hm.k181 hm.l181, cka_i hm.k182 hm.l182, cka_i hm.k183 hm.l183, cka_i hm.k184 hm.l184, cka_i hm.k185 hm.l185, cka_i hm.k186 hm.l186, cka_i hm.k187 hm.l187, cka_i hm.k188 hm.l188, cka_i hm.k189 hm.l189, cka_i hm.k190 hm.l190, X3_inI, X1_inI, i32_64, b01_i0, b01_i1, i64_m1, i64_0, i64_1, i64_2, i64_3, i64_8, i64_9, i64_10, i64_12, i64_15, i64_18, i64_20, i64_24, i64_30, i64_39, i64_48, i64_57, i64_60, i64_99, i64_100, i64_999, i64_99999])
    rw [← hQ]
    unfold aLate nLate
    rw [if_neg c, if_neg c]
    exact ok_some ⟨rfl, q0, FM_thrown⟩
