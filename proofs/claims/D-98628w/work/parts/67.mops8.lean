/-! THE MODEL'S ACTS: the next strike, voyages by chance -/
set_option maxRecDepth 100000
/-- the first of some from i on -/
def fnd (p : Nat → Bool) : Nat → Nat → Option Nat
  | 0, _ => none
  | n + 1, i => if p i then some i else fnd p n (i + 1)
def rockAt (s : Rck) (m l : Int) (k : Nat) : Bool := decide (s.2.1 k = m ∧ s.2.2 k = l)
def findR (s : Rck) (m l : Int) : Option Nat := fnd (rockAt s m l) s.1 0
/-- the first step, of n from k on, in which a rock is hit; that rock -/
def strk (S : St) : Nat → Nat → Option (Nat × Nat)
  | 0, _ => none
  | n + 1, k => match findR S.rck (S.now.now + k) (goN S.rck S.mes S.now k).lane with
    | some r => some (k, r)
    | none => strk S n (k + 1)
def aStrikes (S : St) : Int := match strk S 999 1 with
  | some q => q.1
  | none => -2
def nStrikes (S : St) : St := match strk S 999 1 with
  | some q => rowA (row0 S) (Int32.toInt64 (i32 q.2))
  | none => S
theorem fnd_lt {p : Nat → Bool} : ∀ {n i r : Nat}, fnd p n i = some r → i ≤ r ∧ r < i + n
  | 0, _, _, h => by cases h
  | n + 1, i, r, h => by
    unfold fnd at h
    split at h
    · cases h; omega
    · have := fnd_lt h; omega
theorem goN_now (r : Rck) (e : Mes) (W : Wt) : ∀ n : Nat, (goN r e W n).now = W.now + n
  | 0 => by show W.now = W.now + ((0 : Nat) : Int); omega
  | n + 1 => by
    show (goN r e W n).now + 1 = W.now + ((n + 1 : Nat) : Int)
    rw [goN_now r e W n]; omega
theorem M_str28 {S : St} {σ : vMem} {W : Wt} {K : vMem → Int32 → Int32 → Option (Int32 × vMem)} {k1 : Option (Int32 × vMem)} {v : Int32} {Q : Int32 × vMem → Prop} (hm : ML σ) (hR : mRck S.rck σ) (gR : gRck S.rck) (hr : RowIs W (gi σ 169)) (gw : gW 900000 W) (hno : findR S.rck W.now W.lane = none → ok k1 Q) (hyes : ∀ r, findR S.rck W.now W.lane = some r → ok (K σ v (i32 r)) Q) : ok (f_X3_strikes_28 161 K v σ k1 FU (i32 ((0 : Nat) : Int))) Q := by
  have g16 := gR.1
  obtain ⟨⟨g1, g2, g3, g4, g5, g6, g7⟩, g8, g9, g10⟩ := gw
  refine loop1 (F := f_X3_strikes_28 161 K v σ k1) S.rck.1 (fun i x => x = i32 i ∧ findR S.rck W.now W.lane = fnd (rockAt S.rck W.now W.lane) (S.rck.1 - i) i) ?_ FU 0 _ (by omega) ⟨rfl, rfl⟩ (by unfold FU; omega)
  rintro n i x hi ⟨rfl, hf⟩ IH
  rw [f_X3_strikes_28.eq_2]
  by_cases c : i < S.rck.1
  · have q := hR.2 i c
    have q' := gR.2 i c
    have e : S.rck.1 - i = (S.rck.1 - (i + 1)) + 1 := by omega
    rw [e] at hf
    by_cases c1 : S.rck.2.1 i = W.now
    · by_cases c2 : S.rck.2.2 i = W.lane
      · simp (disch := omega) only [vl_s, bp_s, bd_s, bv_s, i32_nl, i32_n, i32_add, i32_sub, i32_mul, i32_neg, i32_ca, i32_cm, i32_cs, i32_cn, i32_le, i32_lt, i32_eq, i32_cl, Int.toNat_natCast, if_pos, if_neg, ite_true, ite_false, not_true_eq_false, not_false_eq_true, Nat.add_zero, Nat.zero_add, Nat.add_sub_cancel, ck_p, cko_si, cka_si, cko_sl, cka_sl, gi_e, gi_x, gl_e, gl_x, gr_si, gl_si, gi_sl, gr_sl, cko_c hm.k (show 3 ∈ [3] by decide), dr_c hm.r2, dr_c hm.r9, dr_c hm.r10, dr_c hm.r11, dr_c hm.r12, dr_c hm.r13, dr_c hm.r14, dr_c hm.r15, dr_c hm.r16, dr_c hm.r21, dr_c hm.r23, dr_c hm.r24, dr_c hm.r27, dr_c hm.r28, dr_c hm.r30, dr_c hm.r33, dr_c hm.r34, dr_c hm.r36, dr_c hm.r37, dr_c hm.r38, dr_c hm.r41, dr_c hm.r43, dr_c hm.r44, dr_c hm.r45, dr_c hm.r46, dr_c hm.r47, dr_c hm.r50, dr_c hm.r51, dr_c hm.r52, cka_i hm.k162 hm.l162, cka_i hm.k163 hm.l163, cka_i hm.k164 hm.l164, cka_i hm.k165 hm.l165, cka_i hm.k166 hm.l166, cka_i hm.k167 hm.l167, cka_i hm.k168 hm.l168, cka_i hm.k169 hm.l169, cka_i hm.k170 hm.l170, cka_i hm.k171 hm.l171, cka_i hm.k172 hm.l172, cka_i hm.k173 hm.l173, cka_i hm.k174 hm.l174, cka_i hm.k175 hm.l175, cka_i hm.k176 hm.l176, cka_i hm.k177 hm.l177, cka_i hm.k178 hm.l178, cka_i hm.k179 hm.l179, cka_i hm.k180 hm.l180, cka_i hm.k181 hm.l181, cka_i hm.k182 hm.l182, cka_i hm.k183 hm.l183, cka_i hm.k184 hm.l184, cka_i hm.k185 hm.l185, cka_i hm.k186 hm.l186, cka_i hm.k187 hm.l187, cka_i hm.k188 hm.l188, cka_i hm.k189 hm.l189, cka_i hm.k190 hm.l190, hR.1, q.1, q.2, hr.1, hr.2.1]
        exact hyes i (by rw [hf]; unfold fnd; rw [if_pos (by unfold rockAt; exact decide_eq_true ⟨c1, c2⟩)])
      · simp (disch := omega) only [vl_s, bp_s, bd_s, bv_s, i32_nl, i32_n, i32_add, i32_sub, i32_mul, i32_neg, i32_ca, i32_cm, i32_cs, i32_cn, i32_le, i32_lt, i32_eq, i32_cl, Int.toNat_natCast, if_pos, if_neg, ite_true, ite_false, not_true_eq_false, not_false_eq_true, Nat.add_zero, Nat.zero_add, Nat.add_sub_cancel, ck_p, cko_si, cka_si, cko_sl, cka_sl, gi_e, gi_x, gl_e, gl_x, gr_si, gl_si, gi_sl, gr_sl, cko_c hm.k (show 3 ∈ [3] by decide), dr_c hm.r2, dr_c hm.r9, dr_c hm.r10, dr_c hm.r11, dr_c hm.r12, dr_c hm.r13, dr_c hm.r14, dr_c hm.r15, dr_c hm.r16, dr_c hm.r21, dr_c hm.r23, dr_c hm.r24, dr_c hm.r27, dr_c hm.r28, dr_c hm.r30, dr_c hm.r33, dr_c hm.r34, dr_c hm.r36, dr_c hm.r37, dr_c hm.r38, dr_c hm.r41, dr_c hm.r43, dr_c hm.r44, dr_c hm.r45, dr_c hm.r46, dr_c hm.r47, dr_c hm.r50, dr_c hm.r51, dr_c hm.r52, cka_i hm.k162 hm.l162, cka_i hm.k163 hm.l163, cka_i hm.k164 hm.l164, cka_i hm.k165 hm.l165, cka_i hm.k166 hm.l166, cka_i hm.k167 hm.l167, cka_i hm.k168 hm.l168, cka_i hm.k169 hm.l169, cka_i hm.k170 hm.l170, cka_i hm.k171 hm.l171, cka_i hm.k172 hm.l172, cka_i hm.k173 hm.l173, cka_i hm.k174 hm.l174, cka_i hm.k175 hm.l175, cka_i hm.k176 hm.l176, cka_i hm.k177 hm.l177, cka_i hm.k178 hm.l178, cka_i hm.k179 hm.l179, cka_i hm.k180 hm.l180, cka_i hm.k181 hm.l181, cka_i hm.k182 hm.l182, cka_i hm.k183 hm.l183, cka_i hm.k184 hm.l184, cka_i hm.k185 hm.l185, cka_i hm.k186 hm.l186, cka_i hm.k187 hm.l187, cka_i hm.k188 hm.l188, cka_i hm.k189 hm.l189, cka_i hm.k190 hm.l190, hR.1, q.1, q.2, hr.1, hr.2.1]
        exact IH c _ ⟨rfl, by rw [hf]; conv => lhs; unfold fnd
                              rw [if_neg (by unfold rockAt; rw [decide_eq_true_iff]; exact fun p => c2 p.2)]⟩
    · simp (disch := omega) only [vl_s, bp_s, bd_s, bv_s, i32_nl, i32_n, i32_add, i32_sub, i32_mul, i32_neg, i32_ca, i32_cm, i32_cs, i32_cn, i32_le, i32_lt, i32_eq, i32_cl, Int.toNat_natCast, if_pos, if_neg, ite_true, ite_false, not_true_eq_false, not_false_eq_true, Nat.add_zero, Nat.zero_add, Nat.add_sub_cancel, ck_p, cko_si, cka_si, cko_sl, cka_sl, gi_e, gi_x, gl_e, gl_x, gr_si, gl_si, gi_sl, gr_sl, cko_c hm.k (show 3 ∈ [3] by decide), dr_c hm.r2, dr_c hm.r9, dr_c hm.r10, dr_c hm.r11, dr_c hm.r12, dr_c hm.r13, dr_c hm.r14, dr_c hm.r15, dr_c hm.r16, dr_c hm.r21, dr_c hm.r23, dr_c hm.r24, dr_c hm.r27, dr_c hm.r28, dr_c hm.r30, dr_c hm.r33, dr_c hm.r34, dr_c hm.r36, dr_c hm.r37, dr_c hm.r38, dr_c hm.r41, dr_c hm.r43, dr_c hm.r44, dr_c hm.r45, dr_c hm.r46, dr_c hm.r47, dr_c hm.r50, dr_c hm.r51, dr_c hm.r52, cka_i hm.k162 hm.l162, cka_i hm.k163 hm.l163, cka_i hm.k164 hm.l164, cka_i hm.k165 hm.l165, cka_i hm.k166 hm.l166, cka_i hm.k167 hm.l167, cka_i hm.k168 hm.l168, cka_i hm.k169 hm.l169, cka_i hm.k170 hm.l170, cka_i hm.k171 hm.l171, cka_i hm.k172 hm.l172, cka_i hm.k173 hm.l173, cka_i hm.k174 hm.l174, cka_i hm.k175 hm.l175, cka_i hm.k176 hm.l176, cka_i hm.k177 hm.l177, cka_i hm.k178 hm.l178, cka_i hm.k179 hm.l179, cka_i hm.k180 hm.l180, cka_i hm.k181 hm.l181, cka_i hm.k182 hm.l182, cka_i hm.k183 hm.l183, cka_i hm.k184 hm.l184, cka_i hm.k185 hm.l185, cka_i hm.k186 hm.l186, cka_i hm.k187 hm.l187, cka_i hm.k188 hm.l188, cka_i hm.k189 hm.l189, cka_i hm.k190 hm.l190, hR.1, q.1, q.2, hr.1, hr.2.1]
      exact IH c _ ⟨rfl, by rw [hf]; conv => lhs; unfold fnd
                            rw [if_neg (by unfold rockAt; rw [decide_eq_true_iff]; exact fun p => c1 p.1)]⟩
  · have : i = S.rck.1 := by omega
    subst this
    simp (disch := omega) only [vl_s, bp_s, bd_s, bv_s, i32_nl, i32_n, i32_add, i32_sub, i32_mul, i32_neg, i32_ca, i32_cm, i32_cs, i32_cn, i32_le, i32_lt, i32_eq, i32_cl, Int.toNat_natCast, if_pos, if_neg, ite_true, ite_false, not_true_eq_false, not_false_eq_true, Nat.add_zero, Nat.zero_add, Nat.add_sub_cancel, ck_p, cko_si, cka_si, cko_sl, cka_sl, gi_e, gi_x, gl_e, gl_x, gr_si, gl_si, gi_sl, gr_sl, cko_c hm.k (show 3 ∈ [3] by decide), dr_c hm.r2, dr_c hm.r9, dr_c hm.r10, dr_c hm.r11, dr_c hm.r12, dr_c hm.r13, dr_c hm.r14, dr_c hm.r15, dr_c hm.r16, dr_c hm.r21, dr_c hm.r23, dr_c hm.r24, dr_c hm.r27, dr_c hm.r28, dr_c hm.r30, dr_c hm.r33, dr_c hm.r34, dr_c hm.r36, dr_c hm.r37, dr_c hm.r38, dr_c hm.r41, dr_c hm.r43, dr_c hm.r44, dr_c hm.r45, dr_c hm.r46, dr_c hm.r47, dr_c hm.r50, dr_c hm.r51, dr_c hm.r52, cka_i hm.k162 hm.l162, cka_i hm.k163 hm.l163, cka_i hm.k164 hm.l164, cka_i hm.k165 hm.l165, cka_i hm.k166 hm.l166, cka_i hm.k167 hm.l167, cka_i hm.k168 hm.l168, cka_i hm.k169 hm.l169, cka_i hm.k170 hm.l170, cka_i hm.k171 hm.l171, cka_i hm.k172 hm.l172, cka_i hm.k173 hm.l173, cka_i hm.k174 hm.l174, cka_i hm.k175 hm.l175, cka_i hm.k176 hm.l176, cka_i hm.k177 hm.l177, cka_i hm.k178 hm.l178, cka_i hm.k179 hm.l179, cka_i hm.k180 hm.l180, cka_i hm.k181 hm.l181, cka_i hm.k182 hm.l182, cka_i hm.k183 hm.l183, cka_i hm.k184 hm.l184, cka_i hm.k185 hm.l185, cka_i hm.k186 hm.l186, cka_i hm.k187 hm.l187, cka_i hm.k188 hm.l188, cka_i hm.k189 hm.l189, cka_i hm.k190 hm.l190, hR.1]
    exact hno (by rw [hf, Nat.sub_self]; rfl)
theorem M_strikes {S : St} {σ : vMem} {B : Int} (h : RM S σ) (g : gSt B S) (hB : B ≤ 800000) : ok (f_X3_strikes σ 161) (fun r => r.1 = i32 (aStrikes S) ∧ RM (nStrikes S) r.2 ∧ FM σ r.2) := by
  have hm := h.ml
  generalize hQ : (fun r : Int32 × vMem => r.1 = i32 (aStrikes S) ∧ RM (nStrikes S) r.2 ∧ FM σ r.2) = Q
  unfold f_X3_strikes
  (try simp (disch := omega) only [vl_s, bp_s, bd_s, bv_s, i32_nl, i32_n, i32_add, i32_sub, i32_mul, i32_neg, i32_ca, i32_cm, i32_cs, i32_cn, i32_le, i32_lt, i32_eq, i32_cl, Int.toNat_natCast, if_pos, if_neg, ite_true, ite_false, not_true_eq_false, not_false_eq_true, Nat.add_zero, Nat.zero_add, Nat.add_sub_cancel, ck_p, cko_si, cka_si, cko_sl, cka_sl, gi_e, gi_x, gl_e, gl_x, gr_si, gl_si, gi_sl, gr_sl, cko_c hm.k (show 3 ∈ [3] by decide), dr_c hm.r2, dr_c hm.r9, dr_c hm.r10, dr_c hm.r11, dr_c hm.r12, dr_c hm.r13, dr_c hm.r14, dr_c hm.r15, dr_c hm.r16, dr_c hm.r21, dr_c hm.r23, dr_c hm.r24, dr_c hm.r27, dr_c hm.r28, dr_c hm.r30, dr_c hm.r33, dr_c hm.r34, dr_c hm.r36, dr_c hm.r37, dr_c hm.r38, dr_c hm.r41, dr_c hm.r43, dr_c hm.r44, dr_c hm.r45, dr_c hm.r46, dr_c hm.r47, dr_c hm.r50, dr_c hm.r51, dr_c hm.r52, cka_i hm.k162 hm.l162, cka_i hm.k163 hm.l163, cka_i hm.k164 hm.l164, cka_i hm.k165 hm.l165, cka_i hm.k166 hm.l166, cka_i hm.k167 hm.l167, cka_i hm.k168 hm.l168, cka_i hm.k169 hm.l169, cka_i hm.k170 hm.l170, cka_i hm.k171 hm.l171, cka_i hm.k172 hm.l172, cka_i hm.k173 hm.l173, cka_i hm.k174 hm.l174, cka_i hm.k175 hm.l175, cka_i hm.k176 hm.l176, cka_i hm.k177 hm.l177, cka_i hm.k178 hm.l178, cka_i hm.k179 hm.l179, cka_i hm.k180 hm.l180, cka_i hm.k181 hm.l181, cka_i hm.k182 hm.l182, cka_i hm.k183 hm.l183, cka_i hm.k184 hm.l184, cka_i hm.k185 hm.l185, cka_i hm.k186 hm.l186, cka_i hm.k187 hm.l187, cka_i hm.k188 hm.l188, cka_i hm.k189 hm.l189, cka_i hm.k190 hm.l190])
  have h0 := M_thrown h (i32 ((0 : Nat) : Int))
  refine ok_bv (X3_puts h0.ml h0.mn h0.now g.now.len) ?_
  rintro σ1 ⟨w1, F1⟩
  have h1 := h0.u0 F1
  refine loop2 (F := f_X3_strikes_11 161 _) 999 (fun j σ2 v => v = i32 (j + 1 : Nat) ∧ RM S σ2 ∧ FM σ σ2 ∧ RowIs (goN S.rck S.mes S.now j) (gi σ2 169) ∧ strk S 999 1 = strk S (999 - j) (j + 1)) ?_ FU 0 σ1 _ (by omega) ⟨rfl, h1, FM_thrown.tr0 (F1.rsm (by decide)), w1, rfl⟩ (by unfold FU; omega)
  rintro n j σ2 v hj ⟨rfl, h2, F2, w2, hs⟩ IH
  have hm2 := h2.ml
  rw [f_X3_strikes_11.eq_2]
  by_cases c : j < 999
  · (try simp (disch := omega) only [vl_s, bp_s, bd_s, bv_s, i32_nl, i32_n, i32_add, i32_sub, i32_mul, i32_neg, i32_ca, i32_cm, i32_cs, i32_cn, i32_le, i32_lt, i32_eq, i32_cl, Int.toNat_natCast, if_pos, if_neg, ite_true, ite_false, not_true_eq_false, not_false_eq_true, Nat.add_zero, Nat.zero_add, Nat.add_sub_cancel, ck_p, cko_si, cka_si, cko_sl, cka_sl, gi_e, gi_x, gl_e, gl_x, gr_si, gl_si, gi_sl, gr_sl, cko_c hm2.k (show 3 ∈ [3] by decide), dr_c hm2.r2, dr_c hm2.r9, dr_c hm2.r10, dr_c hm2.r11, dr_c hm2.r12, dr_c hm2.r13, dr_c hm2.r14, dr_c hm2.r15, dr_c hm2.r16, dr_c hm2.r21, dr_c hm2.r23, dr_c hm2.r24, dr_c hm2.r27, dr_c hm2.r28, dr_c hm2.r30, dr_c hm2.r33, dr_c hm2.r34, dr_c hm2.r36, dr_c hm2.r37, dr_c hm2.r38, dr_c hm2.r41, dr_c hm2.r43, dr_c hm2.r44, dr_c hm2.r45, dr_c hm2.r46, dr_c hm2.r47, dr_c hm2.r50, dr_c hm2.r51, dr_c hm2.r52, cka_i hm2.k162 hm2.l162, cka_i hm2.k163 hm2.l163, cka_i hm2.k164 hm2.l164, cka_i hm2.k165 hm2.l165, cka_i hm2.k166 hm2.l166, cka_i hm2.k167 hm2.l167, cka_i hm2.k168 hm2.l168, cka_i hm2.k169 hm2.l169, cka_i hm2.k170 hm2.l170, cka_i hm2.k171 hm2.l171, cka_i hm2.k172 hm2.l172, cka_i hm2.k173 hm2.l173, cka_i hm2.k174 hm2.l174, cka_i hm2.k175 hm2.l175, cka_i hm2.k176 hm2.l176, cka_i hm2.k177 hm2.l177, cka_i hm2.k178 hm2.l178, cka_i hm2.k179 hm2.l179, cka_i hm2.k180 hm2.l180, cka_i hm2.k181 hm2.l181, cka_i hm2.k182 hm2.l182, cka_i hm2.k183 hm2.l183, cka_i hm2.k184 hm2.l184, cka_i hm2.k185 hm2.l185, cka_i hm2.k186 hm2.l186, cka_i hm2.k187 hm2.l187, cka_i hm2.k188 hm2.l188, cka_i hm2.k189 hm2.l189, cka_i hm2.k190 hm2.l190])
    refine ok_bv (X3_stepGoes h2.lay h2.rck g.rck h2.mes g.mes (Or.inr rfl) w2 (goN_B g.mes g.now j (by omega) (by omega)) (by omega)) ?_
    rintro σ3 ⟨b1, b2, b3, F3⟩
    have F3' : Fr (KM [0]) 0 0 σ2 σ3 := F3.mono Krow_9
    have h3 := h2.u0 F3'
    have hm3 := h3.ml
    have e : 999 - j = (999 - (j + 1)) + 1 := by omega
    rw [e] at hs
    have en : (goN S.rck S.mes S.now (j + 1)).now = S.now.now + (j + 1 : Nat) := goN_now _ _ _ _
    have hs2 : strk S 999 1 = match findR S.rck (goN S.rck S.mes S.now (j + 1)).now (goN S.rck S.mes S.now (j + 1)).lane with
      | some r => some (j + 1, r)
      | none => strk S (999 - (j + 1)) (j + 1 + 1) := by rw [hs, en]; rfl
    (try simp (disch := omega) only [vl_s, bp_s, bd_s, bv_s, i32_nl, i32_n, i32_add, i32_sub, i32_mul, i32_neg, i32_ca, i32_cm, i32_cs, i32_cn, i32_le, i32_lt, i32_eq, i32_cl, Int.toNat_natCast, if_pos, if_neg, ite_true, ite_false, not_true_eq_false, not_false_eq_true, Nat.add_zero, Nat.zero_add, Nat.add_sub_cancel, ck_p, cko_si, cka_si, cko_sl, cka_sl, gi_e, gi_x, gl_e, gl_x, gr_si, gl_si, gi_sl, gr_sl, cko_c hm3.k (show 3 ∈ [3] by decide), dr_c hm3.r2, dr_c hm3.r9, dr_c hm3.r10, dr_c hm3.r11, dr_c hm3.r12, dr_c hm3.r13, dr_c hm3.r14, dr_c hm3.r15, dr_c hm3.r16, dr_c hm3.r21, dr_c hm3.r23, dr_c hm3.r24, dr_c hm3.r27, dr_c hm3.r28, dr_c hm3.r30, dr_c hm3.r33, dr_c hm3.r34, dr_c hm3.r36, dr_c hm3.r37, dr_c hm3.r38, dr_c hm3.r41, dr_c hm3.r43, dr_c hm3.r44, dr_c hm3.r45, dr_c hm3.r46, dr_c hm3.r47, dr_c hm3.r50, dr_c hm3.r51, dr_c hm3.r52, cka_i hm3.k162 hm3.l162, cka_i hm3.k163 hm3.l163, cka_i hm3.k164 hm3.l164, cka_i hm3.k165 hm3.l165, cka_i hm3.k166 hm3.l166, cka_i hm3.k167 hm3.l167, cka_i hm3.k168 hm3.l168, cka_i hm3.k169 hm3.l169, cka_i hm3.k170 hm3.l170, cka_i hm3.k171 hm3.l171, cka_i hm3.k172 hm3.l172, cka_i hm3.k173 hm3.l173, cka_i hm3.k174 hm3.l174, cka_i hm3.k175 hm3.l175, cka_i hm3.k176 hm3.l176, cka_i hm3.k177 hm3.l177, cka_i hm3.k178 hm3.l178, cka_i hm3.k179 hm3.l179, cka_i hm3.k180 hm3.l180, cka_i hm3.k181 hm3.l181, cka_i hm3.k182 hm3.l182, cka_i hm3.k183 hm3.l183, cka_i hm3.k184 hm3.l184, cka_i hm3.k185 hm3.l185, cka_i hm3.k186 hm3.l186, cka_i hm3.k187 hm3.l187, cka_i hm3.k188 hm3.l188, cka_i hm3.k189 hm3.l189, cka_i hm3.k190 hm3.l190])
    refine M_str28 (W := goN S.rck S.mes S.now (j + 1)) hm3 h3.rck g.rck b1 (goN_B g.mes g.now (j + 1) (by omega) (by omega)) (fun hno => ?_) (fun r hyes => ?_)
    · rw [hno] at hs2
      exact IH c _ _ ⟨rfl, h3, F2.tr0 (F3'.rsm (by decide)), b1, hs2⟩
    · rw [hyes] at hs2
      have h4 := M_row0 h3
      (try simp (disch := omega) only [vl_s, bp_s, bd_s, bv_s, i32_nl, i32_n, i32_add, i32_sub, i32_mul, i32_neg, i32_ca, i32_cm, i32_cs, i32_cn, i32_le, i32_lt, i32_eq, i32_cl, Int.toNat_natCast, if_pos, if_neg, ite_true, ite_false, not_true_eq_false, not_false_eq_true, Nat.add_zero, Nat.zero_add, Nat.add_sub_cancel, ck_p, cko_si, cka_si, cko_sl, cka_sl, gi_e, gi_x, gl_e, gl_x, gr_si, gl_si, gi_sl, gr_sl, cko_c hm3.k (show 3 ∈ [3] by decide), dr_c hm3.r2, dr_c hm3.r9, dr_c hm3.r10, dr_c hm3.r11, dr_c hm3.r12, dr_c hm3.r13, dr_c hm3.r14, dr_c hm3.r15, dr_c hm3.r16, dr_c hm3.r21, dr_c hm3.r23, dr_c hm3.r24, dr_c hm3.r27, dr_c hm3.r28, dr_c hm3.r30, dr_c hm3.r33, dr_c hm3.r34, dr_c hm3.r36, dr_c hm3.r37, dr_c hm3.r38, dr_c hm3.r41, dr_c hm3.r43, dr_c hm3.r44, dr_c hm3.r45, dr_c hm3.r46, dr_c hm3.r47, dr_c hm3.r50, dr_c hm3.r51, dr_c hm3.r52, cka_i hm3.k162 hm3.l162, cka_i hm3.k163 hm3.l163, cka_i hm3.k164 hm3.l164, cka_i hm3.k165 hm3.l165, cka_i hm3.k166 hm3.l166, cka_i hm3.k167 hm3.l167, cka_i hm3.k168 hm3.l168, cka_i hm3.k169 hm3.l169, cka_i hm3.k170 hm3.l170, cka_i hm3.k171 hm3.l171, cka_i hm3.k172 hm3.l172, cka_i hm3.k173 hm3.l173, cka_i hm3.k174 hm3.l174, cka_i hm3.k175 hm3.l175, cka_i hm3.k176 hm3.l176, cka_i hm3.k177 hm3.l177, cka_i hm3.k178 hm3.l178, cka_i hm3.k179 hm3.l179, cka_i hm3.k180 hm3.l180, cka_i hm3.k181 hm3.l181, cka_i hm3.k182 hm3.l182, cka_i hm3.k183 hm3.l183, cka_i hm3.k184 hm3.l184, cka_i hm3.k185 hm3.l185, cka_i hm3.k186 hm3.l186, cka_i hm3.k187 hm3.l187, cka_i hm3.k188 hm3.l188, cka_i hm3.k189 hm3.l189, cka_i hm3.k190 hm3.l190])
      refine ok_bv (M_enters h4 (by show 0 < 40; omega) _) ?_
      rintro σ5 ⟨h5, F5⟩
      rw [← hQ]
      unfold aStrikes nStrikes
      rw [hs2]
      exact ok_some ⟨rfl, h5, ((F2.tr0 (F3'.rsm (by decide))).tr0 (F_row0.rsm (by decide))).tr0 (F5.rsm (by decide))⟩
  · have : j = 999 := by omega
    subst this
    (try simp (disch := omega) only [vl_s, bp_s, bd_s, bv_s, i32_nl, i32_n, i32_add, i32_sub, i32_mul, i32_neg, i32_ca, i32_cm, i32_cs, i32_cn, i32_le, i32_lt, i32_eq, i32_cl, Int.toNat_natCast, if_pos, if_neg, ite_true, ite_false, not_true_eq_false, not_false_eq_true, Nat.add_zero, Nat.zero_add, Nat.add_sub_cancel, ck_p, cko_si, cka_si, cko_sl, cka_sl, gi_e, gi_x, gl_e, gl_x, gr_si, gl_si, gi_sl, gr_sl, cko_c hm2.k (show 3 ∈ [3] by decide), dr_c hm2.r2, dr_c hm2.r9, dr_c hm2.r10, dr_c hm2.r11, dr_c hm2.r12, dr_c hm2.r13, dr_c hm2.r14, dr_c hm2.r15, dr_c hm2.r16, dr_c hm2.r21, dr_c hm2.r23, dr_c hm2.r24, dr_c hm2.r27, dr_c hm2.r28, dr_c hm2.r30, dr_c hm2.r33, dr_c hm2.r34, dr_c hm2.r36, dr_c hm2.r37, dr_c hm2.r38, dr_c hm2.r41, dr_c hm2.r43, dr_c hm2.r44, dr_c hm2.r45, dr_c hm2.r46, dr_c hm2.r47, dr_c hm2.r50, dr_c hm2.r51, dr_c hm2.r52, cka_i hm2.k162 hm2.l162, cka_i hm2.k163 hm2.l163, cka_i hm2.k164 hm2.l164, cka_i hm2.k165 hm2.l165, cka_i hm2.k166 hm2.l166, cka_i hm2.k167 hm2.l167, cka_i hm2.k168 hm2.l168, cka_i hm2.k169 hm2.l169, cka_i hm2.k170 hm2.l170, cka_i hm2.k171 hm2.l171, cka_i hm2.k172 hm2.l172, cka_i hm2.k173 hm2.l173, cka_i hm2.k174 hm2.l174, cka_i hm2.k175 hm2.l175, cka_i hm2.k176 hm2.l176, cka_i hm2.k177 hm2.l177, cka_i hm2.k178 hm2.l178, cka_i hm2.k179 hm2.l179, cka_i hm2.k180 hm2.l180, cka_i hm2.k181 hm2.l181, cka_i hm2.k182 hm2.l182, cka_i hm2.k183 hm2.l183, cka_i hm2.k184 hm2.l184, cka_i hm2.k185 hm2.l185, cka_i hm2.k186 hm2.l186, cka_i hm2.k187 hm2.l187, cka_i hm2.k188 hm2.l188, cka_i hm2.k189 hm2.l189, cka_i hm2.k190 hm2.l190])
    rw [← hQ]
    unfold aStrikes nStrikes
    rw [hs]
    exact ok_some ⟨rfl, h2, F2⟩
/-- chance -/
def lcg (r : Int32) : Int32 := r * 1103515245 + 12345
def lcv (r : Int32) : Int := let x := ((Int32.toUInt32 r >>> (Int32.toUInt32 16 &&& Int32.toUInt32 31)).toInt32).toInt; x - x / 4 * 4
theorem lc_b (r : Int32) : 0 ≤ ((Int32.toUInt32 r >>> (Int32.toUInt32 16 &&& Int32.toUInt32 31)).toInt32).toInt ∧ ((Int32.toUInt32 r >>> (Int32.toUInt32 16 &&& Int32.toUInt32 31)).toInt32).toInt < 65536 := by
  have e : (Int32.toUInt32 16 &&& Int32.toUInt32 31) = 16 := by decide
  rw [e]
  generalize Int32.toUInt32 r = u
  have h1 : (u >>> 16).toNat = u.toNat / 65536 := by
    rw [UInt32.toNat_shiftRight]
    show u.toNat >>> (16 % 32) = _
    rw [Nat.shiftRight_eq_div_pow]
  have h2 : u.toNat < 4294967296 := u.toNat_lt
  have h3 : (u >>> 16).toInt32.toInt = ((u >>> 16).toNat : Int) := by
    show (u >>> 16).toBitVec.toInt = _
    rw [BitVec.toInt_eq_toNat_of_lt]
    · rfl
    · show 2 * (u >>> 16).toNat < _
      rw [h1]; omega
  rw [h3, h1]
  omega
theorem lcv_b (r : Int32) : 0 ≤ lcv r ∧ lcv r ≤ 3 := by
  have := lc_b r
  unfold lcv
  dsimp only
  omega
theorem lcv_e (r : Int32) : (Int32.toUInt32 r >>> (Int32.toUInt32 16 &&& Int32.toUInt32 31)).toInt32 - (Int32.toUInt32 r >>> (Int32.toUInt32 16 &&& Int32.toUInt32 31)).toInt32 / 4 * 4 = i32 (lcv r) := by
  have b := lc_b r
  unfold lcv
  generalize (Int32.toUInt32 r >>> (Int32.toUInt32 16 &&& Int32.toUInt32 31)).toInt32 = x at b ⊢
  obtain ⟨z, h1, h2, rfl⟩ := ex32 x
  rw [i32_toInt h1 h2] at b ⊢
  rw [show (4 : Int32) = i32 4 from rfl, i32_div b.1 (by omega) (by omega) (by omega), i32_mul, i32_sub]
/-- chance, orders given, the watch behind some steps by chance -/
def voyN (S : St) (seed : Int32) : Nat → Int32 × Int × Wt
  | 0 => (seed, 0, S.now)
  | k + 1 => let q := voyN S seed k
    (lcg q.1, q.2.1 + (if lcv (lcg q.1) < 2 ∧ 0 ≤ giveA S q.2.2 (2 * lcv (lcg q.1) - 1) then 1 else 0), stepW S.rck S.mes (if lcv (lcg q.1) < 2 then giveN S q.2.2 (2 * lcv (lcg q.1) - 1) else q.2.2))
theorem voyN_g {S : St} {seed : Int32} {B : Int} (g : gSt B S) (n : Nat) : gW (B + n) (voyN S seed n).2.2 ∧ 0 ≤ (voyN S seed n).2.1 ∧ (voyN S seed n).2.1 ≤ n := by
  induction n with
  | zero =>
    refine ⟨?_, Int.le_refl _, Int.le_refl _⟩
    show gW (B + ((0 : Nat) : Int)) S.now
    rw [Int.natCast_zero, Int.add_zero]
    exact g.now
  | succ n ih =>
    have e : B + ((n + 1 : Nat) : Int) = B + n + 1 := by omega
    rw [e]
    refine ⟨stepW_g g.mes ?_, ?_⟩
    · split
      · exact giveN_g ih.1
      · exact ih.1
    · show 0 ≤ (voyN S seed n).2.1 + (if _ then 1 else 0) ∧ (voyN S seed n).2.1 + (if _ then 1 else 0) ≤ _
      split <;> omega
def aVoyages (S : St) (seed : Int32) (n : Int) : Int32 := if 1 ≤ n ∧ n ≤ 60 then (voyN S seed n.toNat).2.2.hits - S.now.hits else -1
def nVoyages (S : St) (seed : Int32) (n : Int) : St := if 1 ≤ n ∧ n ≤ 60 then rowA (rowA (row0 S) (Int32.toInt64 (i32 (voyN S seed n.toNat).2.2.lane))) (Int32.toInt64 (i32 (voyN S seed n.toNat).2.1)) else S
theorem giveN_hits (S : St) (W : Wt) (v : Int) : (giveN S W v).hits = W.hits := by
  unfold giveN
  split <;> rfl
theorem M_voy35 {S : St} {σ : vMem} {B : Int} {n : Nat} {seed : Int32} {K : vMem → Int32 → Option (Int32 × vMem)} {Q : Int32 × vMem → Prop} (h : RM S σ) (g : gSt B S) (hB : B ≤ 800000) (hn : n ≤ 60) (hr : RowIs S.now (gi σ 169)) (h31 : gi σ 161 31 = i32 ((0 : Nat) : Int)) (hK : ∀ σ', RM S σ' → Fr (KM [0]) 0 0 σ σ' → RowIs (voyN S seed n).2.2 (gi σ' 169) → gi σ' 161 31 = (voyN S seed n).2.2.hits - S.now.hits → ok (K σ' (i32 (voyN S seed n).2.1)) Q) : ok (f_X3_voyages_35 161 (i32 n) K FU σ seed (i32 ((0 : Nat) : Int)) (i32 ((0 : Nat) : Int))) Q := by
  refine loop4 (F := f_X3_voyages_35 161 (i32 n) K) n (fun k σ1 v3 v4 v => v = i32 k ∧ v3 = (voyN S seed k).1 ∧ v4 = i32 (voyN S seed k).2.1 ∧ RM S σ1 ∧ Fr (KM [0]) 0 0 σ σ1 ∧ RowIs (voyN S seed k).2.2 (gi σ1 169) ∧ gi σ1 161 31 = (voyN S seed k).2.2.hits - S.now.hits) ?_ FU 0 σ _ _ _ (by omega) ⟨rfl, rfl, rfl, h, Fr.rf, hr, ?_⟩ (by unfold FU; omega)
  · rintro m k σ1 v3 v4 v hk2 ⟨rfl, rfl, rfl, h1, F1, a0, a1⟩ IH
    have hm := h1.ml
    have gv := voyN_g (seed := seed) g k
    have gw : gW 900000 (voyN S seed k).2.2 := gv.1.up (by omega)
    have el : ∀ r : Int32, r * 1103515245 + 12345 = lcg r := fun _ => rfl
    have lb := lcv_b (lcg (voyN S seed k).1)
    rw [f_X3_voyages_35.eq_2]
    simp only [vl_s, el, lcv_e]
    by_cases hc : k < n
    · have step : ∀ σ2 W' z, RM S σ2 → Fr (KM [0]) 0 0 σ1 σ2 → gi σ2 161 31 = gi σ1 161 31 → RowIs W' (gi σ2 169) → gW 900000 W' → W'.hits = (voyN S seed k).2.2.hits → voyN S seed (k + 1) = (lcg (voyN S seed k).1, z, stepW S.rck S.mes W') → ok (bv (f_X3_stepGoes σ2 161 169) (fun σ_10 => f_X3_voyages_35 161 (i32 n) K m σ_10 (lcg (voyN S seed k).1) (i32 z) (i32 (k + 1 : Nat)))) Q := by
        intro σ2 W' z q2 G2 e31 w2 gw2 eh ev
        refine ok_bv (X3_stepGoes q2.lay q2.rck g.rck q2.mes g.mes (Or.inr rfl) w2 gw2 (by omega)) ?_
        rintro σ3 ⟨b1, b2, b3, F3⟩
        have F3' : Fr (KM [0]) 0 0 σ2 σ3 := F3.mono Krow_9
        refine IH hc _ _ _ _ ⟨rfl, by rw [ev], by rw [ev], q2.u0 F3', (F1.tr0 G2).tr0 F3', by rw [ev]; exact b1, ?_⟩
        rw [b2, e31, a1, ev]
        show _ = W'.hits + _ - S.now.hits
        rw [eh]
        exact (i32_acc _ _ _).symm
      by_cases c : lcv (lcg (voyN S seed k).1) < 2
      · (try simp (disch := omega) only [vl_s, bp_s, bd_s, bv_s, i32_nl, i32_n, i32_add, i32_sub, i32_mul, i32_neg, i32_ca, i32_cm, i32_cs, i32_cn, i32_le, i32_lt, i32_eq, i32_cl, Int.toNat_natCast, if_pos, if_neg, ite_true, ite_false, not_true_eq_false, not_false_eq_true, Nat.add_zero, Nat.zero_add, Nat.add_sub_cancel, ck_p, cko_si, cka_si, cko_sl, cka_sl, gi_e, gi_x, gl_e, gl_x, gr_si, gl_si, gi_sl, gr_sl, cko_c hm.k (show 3 ∈ [3] by decide), dr_c hm.r2, dr_c hm.r9, dr_c hm.r10, dr_c hm.r11, dr_c hm.r12, dr_c hm.r13, dr_c hm.r14, dr_c hm.r15, dr_c hm.r16, dr_c hm.r21, dr_c hm.r23, dr_c hm.r24, dr_c hm.r27, dr_c hm.r28, dr_c hm.r30, dr_c hm.r33, dr_c hm.r34, dr_c hm.r36, dr_c hm.r37, dr_c hm.r38, dr_c hm.r41, dr_c hm.r43, dr_c hm.r44, dr_c hm.r45, dr_c hm.r46, dr_c hm.r47, dr_c hm.r50, dr_c hm.r51, dr_c hm.r52, cka_i hm.k162 hm.l162, cka_i hm.k163 hm.l163, cka_i hm.k164 hm.l164, cka_i hm.k165 hm.l165, cka_i hm.k166 hm.l166, cka_i hm.k167 hm.l167, cka_i hm.k168 hm.l168, cka_i hm.k169 hm.l169, cka_i hm.k170 hm.l170, cka_i hm.k171 hm.l171, cka_i hm.k172 hm.l172, cka_i hm.k173 hm.l173, cka_i hm.k174 hm.l174, cka_i hm.k175 hm.l175, cka_i hm.k176 hm.l176, cka_i hm.k177 hm.l177, cka_i hm.k178 hm.l178, cka_i hm.k179 hm.l179, cka_i hm.k180 hm.l180, cka_i hm.k181 hm.l181, cka_i hm.k182 hm.l182, cka_i hm.k183 hm.l183, cka_i hm.k184 hm.l184, cka_i hm.k185 hm.l185, cka_i hm.k186 hm.l186, cka_i hm.k187 hm.l187, cka_i hm.k188 hm.l188, cka_i hm.k189 hm.l189, cka_i hm.k190 hm.l190])
        refine ok_bd (M_gives (v := 2 * lcv (lcg (voyN S seed k).1) - 1) h1 (g.up (by omega : B ≤ 900000)) (Or.inr rfl) a0 gw (by omega) (by omega) (by omega)) ?_
        rintro x σ2 ⟨rfl, r2, F2⟩
        have F2' : Fr (KM [0]) 0 0 σ1 σ2 := F2.mono Kgv_9
        have q2 := h1.u0 F2'
        have hm2 := q2.ml
        have e31 : gi σ2 161 31 = gi σ1 161 31 := F2.i (by have := h1.mn; omega) ⟨by decide, by decide, by decide⟩
        have gb := giveA_b S (voyN S seed k).2.2 (2 * lcv (lcg (voyN S seed k).1) - 1)
        by_cases d : 0 ≤ giveA S (voyN S seed k).2.2 (2 * lcv (lcg (voyN S seed k).1) - 1)
        · (try simp (disch := omega) only [vl_s, bp_s, bd_s, bv_s, i32_nl, i32_n, i32_add, i32_sub, i32_mul, i32_neg, i32_ca, i32_cm, i32_cs, i32_cn, i32_le, i32_lt, i32_eq, i32_cl, Int.toNat_natCast, if_pos, if_neg, ite_true, ite_false, not_true_eq_false, not_false_eq_true, Nat.add_zero, Nat.zero_add, Nat.add_sub_cancel, ck_p, cko_si, cka_si, cko_sl, cka_sl, gi_e, gi_x, gl_e, gl_x, gr_si, gl_si, gi_sl, gr_sl, cko_c hm2.k (show 3 ∈ [3] by decide), dr_c hm2.r2, dr_c hm2.r9, dr_c hm2.r10, dr_c hm2.r11, dr_c hm2.r12, dr_c hm2.r13, dr_c hm2.r14, dr_c hm2.r15, dr_c hm2.r16, dr_c hm2.r21, dr_c hm2.r23, dr_c hm2.r24, dr_c hm2.r27, dr_c hm2.r28, dr_c hm2.r30, dr_c hm2.r33, dr_c hm2.r34, dr_c hm2.r36, dr_c hm2.r37, dr_c hm2.r38, dr_c hm2.r41, dr_c hm2.r43, dr_c hm2.r44, dr_c hm2.r45, dr_c hm2.r46, dr_c hm2.r47, dr_c hm2.r50, dr_c hm2.r51, dr_c hm2.r52, cka_i hm2.k162 hm2.l162, cka_i hm2.k163 hm2.l163, cka_i hm2.k164 hm2.l164, cka_i hm2.k165 hm2.l165, cka_i hm2.k166 hm2.l166, cka_i hm2.k167 hm2.l167, cka_i hm2.k168 hm2.l168, cka_i hm2.k169 hm2.l169, cka_i hm2.k170 hm2.l170, cka_i hm2.k171 hm2.l171, cka_i hm2.k172 hm2.l172, cka_i hm2.k173 hm2.l173, cka_i hm2.k174 hm2.l174, cka_i hm2.k175 hm2.l175, cka_i hm2.k176 hm2.l176, cka_i hm2.k177 hm2.l177, cka_i hm2.k178 hm2.l178, cka_i hm2.k179 hm2.l179, cka_i hm2.k180 hm2.l180, cka_i hm2.k181 hm2.l181, cka_i hm2.k182 hm2.l182, cka_i hm2.k183 hm2.l183, cka_i hm2.k184 hm2.l184, cka_i hm2.k185 hm2.l185, cka_i hm2.k186 hm2.l186, cka_i hm2.k187 hm2.l187, cka_i hm2.k188 hm2.l188, cka_i hm2.k189 hm2.l189, cka_i hm2.k190 hm2.l190, X3_flag1])
          refine step σ2 _ _ q2 F2' e31 r2 (giveN_g gw) (giveN_hits _ _ _) ?_
          show (_, _, _) = (_, _, _)
          rw [if_pos ⟨c, d⟩, if_pos c]
          rfl
        · (try simp (disch := omega) only [vl_s, bp_s, bd_s, bv_s, i32_nl, i32_n, i32_add, i32_sub, i32_mul, i32_neg, i32_ca, i32_cm, i32_cs, i32_cn, i32_le, i32_lt, i32_eq, i32_cl, Int.toNat_natCast, if_pos, if_neg, ite_true, ite_false, not_true_eq_false, not_false_eq_true, Nat.add_zero, Nat.zero_add, Nat.add_sub_cancel, ck_p, cko_si, cka_si, cko_sl, cka_sl, gi_e, gi_x, gl_e, gl_x, gr_si, gl_si, gi_sl, gr_sl, cko_c hm2.k (show 3 ∈ [3] by decide), dr_c hm2.r2, dr_c hm2.r9, dr_c hm2.r10, dr_c hm2.r11, dr_c hm2.r12, dr_c hm2.r13, dr_c hm2.r14, dr_c hm2.r15, dr_c hm2.r16, dr_c hm2.r21, dr_c hm2.r23, dr_c hm2.r24, dr_c hm2.r27, dr_c hm2.r28, dr_c hm2.r30, dr_c hm2.r33, dr_c hm2.r34, dr_c hm2.r36, dr_c hm2.r37, dr_c hm2.r38, dr_c hm2.r41, dr_c hm2.r43, dr_c hm2.r44, dr_c hm2.r45, dr_c hm2.r46, dr_c hm2.r47, dr_c hm2.r50, dr_c hm2.r51, dr_c hm2.r52, cka_i hm2.k162 hm2.l162, cka_i hm2.k163 hm2.l163, cka_i hm2.k164 hm2.l164, cka_i hm2.k165 hm2.l165, cka_i hm2.k166 hm2.l166, cka_i hm2.k167 hm2.l167, cka_i hm2.k168 hm2.l168, cka_i hm2.k169 hm2.l169, cka_i hm2.k170 hm2.l170, cka_i hm2.k171 hm2.l171, cka_i hm2.k172 hm2.l172, cka_i hm2.k173 hm2.l173, cka_i hm2.k174 hm2.l174, cka_i hm2.k175 hm2.l175, cka_i hm2.k176 hm2.l176, cka_i hm2.k177 hm2.l177, cka_i hm2.k178 hm2.l178, cka_i hm2.k179 hm2.l179, cka_i hm2.k180 hm2.l180, cka_i hm2.k181 hm2.l181, cka_i hm2.k182 hm2.l182, cka_i hm2.k183 hm2.l183, cka_i hm2.k184 hm2.l184, cka_i hm2.k185 hm2.l185, cka_i hm2.k186 hm2.l186, cka_i hm2.k187 hm2.l187, cka_i hm2.k188 hm2.l188, cka_i hm2.k189 hm2.l189, cka_i hm2.k190 hm2.l190, X3_flag0])
          refine step σ2 _ _ q2 F2' e31 r2 (giveN_g gw) (giveN_hits _ _ _) ?_
          show (_, _, _) = (_, _, _)
          rw [if_neg (fun q => d q.2), if_pos c]
          rfl
      · (try simp (disch := omega) only [vl_s, bp_s, bd_s, bv_s, i32_nl, i32_n, i32_add, i32_sub, i32_mul, i32_neg, i32_ca, i32_cm, i32_cs, i32_cn, i32_le, i32_lt, i32_eq, i32_cl, Int.toNat_natCast, if_pos, if_neg, ite_true, ite_false, not_true_eq_false, not_false_eq_true, Nat.add_zero, Nat.zero_add, Nat.add_sub_cancel, ck_p, cko_si, cka_si, cko_sl, cka_sl, gi_e, gi_x, gl_e, gl_x, gr_si, gl_si, gi_sl, gr_sl, cko_c hm.k (show 3 ∈ [3] by decide), dr_c hm.r2, dr_c hm.r9, dr_c hm.r10, dr_c hm.r11, dr_c hm.r12, dr_c hm.r13, dr_c hm.r14, dr_c hm.r15, dr_c hm.r16, dr_c hm.r21, dr_c hm.r23, dr_c hm.r24, dr_c hm.r27, dr_c hm.r28, dr_c hm.r30, dr_c hm.r33, dr_c hm.r34, dr_c hm.r36, dr_c hm.r37, dr_c hm.r38, dr_c hm.r41, dr_c hm.r43, dr_c hm.r44, dr_c hm.r45, dr_c hm.r46, dr_c hm.r47, dr_c hm.r50, dr_c hm.r51, dr_c hm.r52, cka_i hm.k162 hm.l162, cka_i hm.k163 hm.l163, cka_i hm.k164 hm.l164, cka_i hm.k165 hm.l165, cka_i hm.k166 hm.l166, cka_i hm.k167 hm.l167, cka_i hm.k168 hm.l168, cka_i hm.k169 hm.l169, cka_i hm.k170 hm.l170, cka_i hm.k171 hm.l171, cka_i hm.k172 hm.l172, cka_i hm.k173 hm.l173, cka_i hm.k174 hm.l174, cka_i hm.k175 hm.l175, cka_i hm.k176 hm.l176, cka_i hm.k177 hm.l177, cka_i hm.k178 hm.l178, cka_i hm.k179 hm.l179, cka_i hm.k180 hm.l180, cka_i hm.k181 hm.l181, cka_i hm.k182 hm.l182, cka_i hm.k183 hm.l183, cka_i hm.k184 hm.l184, cka_i hm.k185 hm.l185, cka_i hm.k186 hm.l186, cka_i hm.k187 hm.l187, cka_i hm.k188 hm.l188, cka_i hm.k189 hm.l189, cka_i hm.k190 hm.l190])
        refine step σ1 _ _ h1 Fr.rf rfl a0 gw rfl ?_
        show (_, _, _) = (_, _, _)
        rw [if_neg (fun q => c q.1), if_neg c, Int.add_zero]
    · have : k = n := by omega
      subst this
      (try simp (disch := omega) only [vl_s, bp_s, bd_s, bv_s, i32_nl, i32_n, i32_add, i32_sub, i32_mul, i32_neg, i32_ca, i32_cm, i32_cs, i32_cn, i32_le, i32_lt, i32_eq, i32_cl, Int.toNat_natCast, if_pos, if_neg, ite_true, ite_false, not_true_eq_false, not_false_eq_true, Nat.add_zero, Nat.zero_add, Nat.add_sub_cancel, ck_p, cko_si, cka_si, cko_sl, cka_sl, gi_e, gi_x, gl_e, gl_x, gr_si, gl_si, gi_sl, gr_sl])
      exact hK σ1 h1 F1 a0 a1
  · rw [h31]
    show _ = S.now.hits - S.now.hits
    rw [Int32.sub_self]
    rfl
theorem M_voyages {S : St} {σ : vMem} {B : Int} {seed : Int32} {n : Int} (h : RM S σ) (g : gSt B S) (hB : B ≤ 800000) (h1 : -2147483648 ≤ n) (h2 : n < 2147483648) : ok (f_X3_voyages σ 161 seed (i32 n)) (fun r => r.1 = aVoyages S seed n ∧ RM (nVoyages S seed n) r.2 ∧ FM σ r.2) := by
  have hm := h.ml
  generalize hQ : (fun r : Int32 × vMem => r.1 = aVoyages S seed n ∧ RM (nVoyages S seed n) r.2 ∧ FM σ r.2) = Q
  unfold f_X3_voyages
  by_cases hc : 1 ≤ n ∧ n ≤ 60
  · obtain ⟨k, rfl⟩ : ∃ k : Nat, n = k := ⟨n.toNat, by omega⟩
    (try simp (disch := omega) only [vl_s, bp_s, bd_s, bv_s, i32_nl, i32_n, i32_add, i32_sub, i32_mul, i32_neg, i32_ca, i32_cm, i32_cs, i32_cn, i32_le, i32_lt, i32_eq, i32_cl, Int.toNat_natCast, if_pos, if_neg, ite_true, ite_false, not_true_eq_false, not_false_eq_true, Nat.add_zero, Nat.zero_add, Nat.add_sub_cancel, ck_p, cko_si, cka_si, cko_sl, cka_sl, gi_e, gi_x, gl_e, gl_x, gr_si, gl_si, gi_sl, gr_sl, cko_c hm.k (show 3 ∈ [3] by decide), dr_c hm.r2, dr_c hm.r9, dr_c hm.r10, dr_c hm.r11, dr_c hm.r12, dr_c hm.r13, dr_c hm.r14, dr_c hm.r15, dr_c hm.r16, dr_c hm.r21, dr_c hm.r23, dr_c hm.r24, dr_c hm.r27, dr_c hm.r28, dr_c hm.r30, dr_c hm.r33, dr_c hm.r34, dr_c hm.r36, dr_c hm.r37, dr_c hm.r38, dr_c hm.r41, dr_c hm.r43, dr_c hm.r44, dr_c hm.r45, dr_c hm.r46, dr_c hm.r47, dr_c hm.r50, dr_c hm.r51, dr_c hm.r52, cka_i hm.k162 hm.l162, cka_i hm.k163 hm.l163, cka_i hm.k164 hm.l164, cka_i hm.k165 hm.l165, cka_i hm.k166 hm.l166, cka_i hm.k167 hm.l167, cka_i hm.k168 hm.l168, cka_i hm.k169 hm.l169, cka_i hm.k170 hm.l170, cka_i hm.k171 hm.l171, cka_i hm.k172 hm.l172, cka_i hm.k173 hm.l173, cka_i hm.k174 hm.l174, cka_i hm.k175 hm.l175, cka_i hm.k176 hm.l176, cka_i hm.k177 hm.l177, cka_i hm.k178 hm.l178, cka_i hm.k179 hm.l179, cka_i hm.k180 hm.l180, cka_i hm.k181 hm.l181, cka_i hm.k182 hm.l182, cka_i hm.k183 hm.l183, cka_i hm.k184 hm.l184, cka_i hm.k185 hm.l185, cka_i hm.k186 hm.l186, cka_i hm.k187 hm.l187, cka_i hm.k188 hm.l188, cka_i hm.k189 hm.l189, cka_i hm.k190 hm.l190, X3_inI, X1_inI, i32_64, b01_i0, b01_i1, i64_m1, i64_0, i64_1, i64_2, i64_3, i64_8, i64_9, i64_10, i64_12, i64_15, i64_18, i64_20, i64_24, i64_30, i64_39, i64_48, i64_57, i64_60, i64_99, i64_100, i64_999, i64_99999])
    have h0 := M_thrown h (i32 ((0 : Nat) : Int))
    refine ok_bv (X3_puts h0.ml h0.mn h0.now g.now.len) ?_
    rintro σ1 ⟨w1, F1⟩
    have h1 := h0.u0 F1
    have hm1 := h1.ml
    (try simp (disch := omega) only [vl_s, bp_s, bd_s, bv_s, i32_nl, i32_n, i32_add, i32_sub, i32_mul, i32_neg, i32_ca, i32_cm, i32_cs, i32_cn, i32_le, i32_lt, i32_eq, i32_cl, Int.toNat_natCast, if_pos, if_neg, ite_true, ite_false, not_true_eq_false, not_false_eq_true, Nat.add_zero, Nat.zero_add, Nat.add_sub_cancel, ck_p, cko_si, cka_si, cko_sl, cka_sl, gi_e, gi_x, gl_e, gl_x, gr_si, gl_si, gi_sl, gr_sl, cko_c hm1.k (show 3 ∈ [3] by decide), dr_c hm1.r2, dr_c hm1.r9, dr_c hm1.r10, dr_c hm1.r11, dr_c hm1.r12, dr_c hm1.r13, dr_c hm1.r14, dr_c hm1.r15, dr_c hm1.r16, dr_c hm1.r21, dr_c hm1.r23, dr_c hm1.r24, dr_c hm1.r27, dr_c hm1.r28, dr_c hm1.r30, dr_c hm1.r33, dr_c hm1.r34, dr_c hm1.r36, dr_c hm1.r37, dr_c hm1.r38, dr_c hm1.r41, dr_c hm1.r43, dr_c hm1.r44, dr_c hm1.r45, dr_c hm1.r46, dr_c hm1.r47, dr_c hm1.r50, dr_c hm1.r51, dr_c hm1.r52, cka_i hm1.k162 hm1.l162, cka_i hm1.k163 hm1.l163, cka_i hm1.k164 hm1.l164, cka_i hm1.k165 hm1.l165, cka_i hm1.k166 hm1.l166, cka_i hm1.k167 hm1.l167, cka_i hm1.k168 hm1.l168, cka_i hm1.k169 hm1.l169, cka_i hm1.k170 hm1.l170, cka_i hm1.k171 hm1.l171, cka_i hm1.k172 hm1.l172, cka_i hm1.k173 hm1.l173, cka_i hm1.k174 hm1.l174, cka_i hm1.k175 hm1.l175, cka_i hm1.k176 hm1.l176, cka_i hm1.k177 hm1.l177, cka_i hm1.k178 hm1.l178, cka_i hm1.k179 hm1.l179, cka_i hm1.k180 hm1.l180, cka_i hm1.k181 hm1.l181, cka_i hm1.k182 hm1.l182, cka_i hm1.k183 hm1.l183, cka_i hm1.k184 hm1.l184, cka_i hm1.k185 hm1.l185, cka_i hm1.k186 hm1.l186, cka_i hm1.k187 hm1.l187, cka_i hm1.k188 hm1.l188, cka_i hm1.k189 hm1.l189, cka_i hm1.k190 hm1.l190, M_startsCounting h1])
    have F2 : Fr (KM [0]) 0 0 σ1 (si (si σ1 161 31 (i32 ((0 : Nat) : Int))) 161 32 (i32 ((0 : Nat) : Int))) := (Fr.rf.wm 0 rfl (by decide)).wm 0 rfl (by decide)
    have w2 : RowIs S.now (gi (si (si σ1 161 31 (i32 ((0 : Nat) : Int))) 161 32 (i32 ((0 : Nat) : Int))) 169) := w1.eq g.now.len (fun j hj => by simp (disch := omega) only [cko_si, cka_si, cko_sl, cka_sl, gi_e, gi_x, gl_e, gl_x, gr_si, gl_si, gi_sl, gr_sl])
    refine M_voy35 (h1.u0 F2) g hB (by omega) w2 (by simp (disch := omega) only [cko_si, cka_si, cko_sl, cka_sl, gi_e, gi_x, gl_e, gl_x, gr_si, gl_si, gi_sl, gr_sl]) (fun σ3 h3 F3 w3 a1 => ?_)
    have hm3 := h3.ml
    have h4 := M_row0 h3
    have e1 : gi σ3 169 1 = i32 (voyN S seed k).2.2.lane := w3.2.1
    (try simp (disch := omega) only [vl_s, bp_s, bd_s, bv_s, i32_nl, i32_n, i32_add, i32_sub, i32_mul, i32_neg, i32_ca, i32_cm, i32_cs, i32_cn, i32_le, i32_lt, i32_eq, i32_cl, Int.toNat_natCast, if_pos, if_neg, ite_true, ite_false, not_true_eq_false, not_false_eq_true, Nat.add_zero, Nat.zero_add, Nat.add_sub_cancel, ck_p, cko_si, cka_si, cko_sl, cka_sl, gi_e, gi_x, gl_e, gl_x, gr_si, gl_si, gi_sl, gr_sl, cko_c hm3.k (show 3 ∈ [3] by decide), dr_c hm3.r2, dr_c hm3.r9, dr_c hm3.r10, dr_c hm3.r11, dr_c hm3.r12, dr_c hm3.r13, dr_c hm3.r14, dr_c hm3.r15, dr_c hm3.r16, dr_c hm3.r21, dr_c hm3.r23, dr_c hm3.r24, dr_c hm3.r27, dr_c hm3.r28, dr_c hm3.r30, dr_c hm3.r33, dr_c hm3.r34, dr_c hm3.r36, dr_c hm3.r37, dr_c hm3.r38, dr_c hm3.r41, dr_c hm3.r43, dr_c hm3.r44, dr_c hm3.r45, dr_c hm3.r46, dr_c hm3.r47, dr_c hm3.r50, dr_c hm3.r51, dr_c hm3.r52, cka_i hm3.k162 hm3.l162, cka_i hm3.k163 hm3.l163, cka_i hm3.k164 hm3.l164, cka_i hm3.k165 hm3.l165, cka_i hm3.k166 hm3.l166, cka_i hm3.k167 hm3.l167, cka_i hm3.k168 hm3.l168, cka_i hm3.k169 hm3.l169, cka_i hm3.k170 hm3.l170, cka_i hm3.k171 hm3.l171, cka_i hm3.k172 hm3.l172, cka_i hm3.k173 hm3.l173, cka_i hm3.k174 hm3.l174, cka_i hm3.k175 hm3.l175, cka_i hm3.k176 hm3.l176, cka_i hm3.k177 hm3.l177, cka_i hm3.k178 hm3.l178, cka_i hm3.k179 hm3.l179, cka_i hm3.k180 hm3.l180, cka_i hm3.k181 hm3.l181, cka_i hm3.k182 hm3.l182, cka_i hm3.k183 hm3.l183, cka_i hm3.k184 hm3.l184, cka_i hm3.k185 hm3.l185, cka_i hm3.k186 hm3.l186, cka_i hm3.k187 hm3.l187, cka_i hm3.k188 hm3.l188, cka_i hm3.k189 hm3.l189, cka_i hm3.k190 hm3.l190, e1])
    refine ok_bv (M_enters h4 (by show 0 < 40; omega) _) ?_
    rintro σ5 ⟨h5, F5⟩
    have hm5 := h5.ml
    (try simp (disch := omega) only [vl_s, bp_s, bd_s, bv_s, i32_nl, i32_n, i32_add, i32_sub, i32_mul, i32_neg, i32_ca, i32_cm, i32_cs, i32_cn, i32_le, i32_lt, i32_eq, i32_cl, Int.toNat_natCast, if_pos, if_neg, ite_true, ite_false, not_true_eq_false, not_false_eq_true, Nat.add_zero, Nat.zero_add, Nat.add_sub_cancel, ck_p, cko_si, cka_si, cko_sl, cka_sl, gi_e, gi_x, gl_e, gl_x, gr_si, gl_si, gi_sl, gr_sl, cko_c hm5.k (show 3 ∈ [3] by decide), dr_c hm5.r2, dr_c hm5.r9, dr_c hm5.r10, dr_c hm5.r11, dr_c hm5.r12, dr_c hm5.r13, dr_c hm5.r14, dr_c hm5.r15, dr_c hm5.r16, dr_c hm5.r21, dr_c hm5.r23, dr_c hm5.r24, dr_c hm5.r27, dr_c hm5.r28, dr_c hm5.r30, dr_c hm5.r33, dr_c hm5.r34, dr_c hm5.r36, dr_c hm5.r37, dr_c hm5.r38, dr_c hm5.r41, dr_c hm5.r43, dr_c hm5.r44, dr_c hm5.r45, dr_c hm5.r46, dr_c hm5.r47, dr_c hm5.r50, dr_c hm5.r51, dr_c hm5.r52, cka_i hm5.k162 hm5.l162, cka_i hm5.k163 hm5.l163, cka_i hm5.k164 hm5.l164, cka_i hm5.k165 hm5.l165, cka_i hm5.k166 hm5.l166, cka_i hm5.k167 hm5.l167, cka_i hm5.k168 hm5.l168, cka_i hm5.k169 hm5.l169, cka_i hm5.k170 hm5.l170, cka_i hm5.k171 hm5.l171, cka_i hm5.k172 hm5.l172, cka_i hm5.k173 hm5.l173, cka_i hm5.k174 hm5.l174, cka_i hm5.k175 hm5.l175, cka_i hm5.k176 hm5.l176, cka_i hm5.k177 hm5.l177, cka_i hm5.k178 hm5.l178, cka_i hm5.k179 hm5.l179, cka_i hm5.k180 hm5.l180, cka_i hm5.k181 hm5.l181, cka_i hm5.k182 hm5.l182, cka_i hm5.k183 hm5.l183, cka_i hm5.k184 hm5.l184, cka_i hm5.k185 hm5.l185, cka_i hm5.k186 hm5.l186, cka_i hm5.k187 hm5.l187, cka_i hm5.k188 hm5.l188, cka_i hm5.k189 hm5.l189, cka_i hm5.k190 hm5.l190])
    refine ok_bv (M_enters h5 (by show 0 + 1 < 40; omega) _) ?_
    rintro σ6 ⟨h6, F6⟩
    have hm6 := h6.ml
    have e31 : gi σ6 161 31 = (voyN S seed k).2.2.hits - S.now.hits := by
      rw [F6.gM (t := 0) (by decide) 161 31 (by have := h5.mn; omega) rfl, F5.gM (t := 0) (by decide) 161 31 (by have := h4.mn; omega) rfl, gi_x (by omega), a1]
    (try simp (disch := omega) only [vl_s, bp_s, bd_s, bv_s, i32_nl, i32_n, i32_add, i32_sub, i32_mul, i32_neg, i32_ca, i32_cm, i32_cs, i32_cn, i32_le, i32_lt, i32_eq, i32_cl, Int.toNat_natCast, if_pos, if_neg, ite_true, ite_false, not_true_eq_false, not_false_eq_true, Nat.add_zero, Nat.zero_add, Nat.add_sub_cancel, ck_p, cko_si, cka_si, cko_sl, cka_sl, gi_e, gi_x, gl_e, gl_x, gr_si, gl_si, gi_sl, gr_sl, cko_c hm6.k (show 3 ∈ [3] by decide), dr_c hm6.r2, dr_c hm6.r9, dr_c hm6.r10, dr_c hm6.r11, dr_c hm6.r12, dr_c hm6.r13, dr_c hm6.r14, dr_c hm6.r15, dr_c hm6.r16, dr_c hm6.r21, dr_c hm6.r23, dr_c hm6.r24, dr_c hm6.r27, dr_c hm6.r28, dr_c hm6.r30, dr_c hm6.r33, dr_c hm6.r34, dr_c hm6.r36, dr_c hm6.r37, dr_c hm6.r38, dr_c hm6.r41, dr_c hm6.r43, dr_c hm6.r44, dr_c hm6.r45, dr_c hm6.r46, dr_c hm6.r47, dr_c hm6.r50, dr_c hm6.r51, dr_c hm6.r52, cka_i hm6.k162 hm6.l162, cka_i hm6.k163 hm6.l163, cka_i hm6.k164 hm6.l164, cka_i hm6.k165 hm6.l165, cka_i hm6.k166 hm6.l166, cka_i hm6.k167 hm6.l167, cka_i hm6.k168 hm6.l168, cka_i hm6.k169 hm6.l169, cka_i hm6.k170 hm6.l170, cka_i hm6.k171 hm6.l171, cka_i hm6.k172 hm6.l172, cka_i hm6.k173 hm6.l173, cka_i hm6.k174 hm6.l174, cka_i hm6.k175 hm6.l175, cka_i hm6.k176 hm6.l176, cka_i hm6.k177 hm6.l177, cka_i hm6.k178 hm6.l178, cka_i hm6.k179 hm6.l179, cka_i hm6.k180 hm6.l180, cka_i hm6.k181 hm6.l181, cka_i hm6.k182 hm6.l182, cka_i hm6.k183 hm6.l183, cka_i hm6.k184 hm6.l184, cka_i hm6.k185 hm6.l185, cka_i hm6.k186 hm6.l186, cka_i hm6.k187 hm6.l187, cka_i hm6.k188 hm6.l188, cka_i hm6.k189 hm6.l189, cka_i hm6.k190 hm6.l190, e31])
    rw [← hQ]
    unfold aVoyages nVoyages
    rw [if_pos hc, if_pos hc, Int.toNat_natCast]
    exact ok_some ⟨rfl, h6, (((((FM_thrown.tr0 (F1.rsm (by decide))).tr0 (F2.rsm (by decide))).tr0 (F3.rsm (by decide))).tr0 (F_row0.rsm (by decide))).tr0 (F5.rsm (by decide))).tr0 (F6.rsm (by decide))⟩
  · (try simp (disch := omega) only [vl_s, bp_s, bd_s, bv_s, i32_nl, i32_n, i32_add, i32_sub, i32_mul, i32_neg, i32_ca, i32_cm, i32_cs, i32_cn, i32_le, i32_lt, i32_eq, i32_cl, Int.toNat_natCast, if_pos, if_neg, ite_true, ite_false, not_true_eq_false, not_false_eq_true, Nat.add_zero, Nat.zero_add, Nat.add_sub_cancel, ck_p, cko_si, cka_si, cko_sl, cka_sl, gi_e, gi_x, gl_e, gl_x, gr_si, gl_si, gi_sl, gr_sl, cko_c hm.k (show 3 ∈ [3] by decide), dr_c hm.r2, dr_c hm.r9, dr_c hm.r10, dr_c hm.r11, dr_c hm.r12, dr_c hm.r13, dr_c hm.r14, dr_c hm.r15, dr_c hm.r16, dr_c hm.r21, dr_c hm.r23, dr_c hm.r24, dr_c hm.r27, dr_c hm.r28, dr_c hm.r30, dr_c hm.r33, dr_c hm.r34, dr_c hm.r36, dr_c hm.r37, dr_c hm.r38, dr_c hm.r41, dr_c hm.r43, dr_c hm.r44, dr_c hm.r45, dr_c hm.r46, dr_c hm.r47, dr_c hm.r50, dr_c hm.r51, dr_c hm.r52, cka_i hm.k162 hm.l162, cka_i hm.k163 hm.l163, cka_i hm.k164 hm.l164, cka_i hm.k165 hm.l165, cka_i hm.k166 hm.l166, cka_i hm.k167 hm.l167, cka_i hm.k168 hm.l168, cka_i hm.k169 hm.l169, cka_i hm.k170 hm.l170, cka_i hm.k171 hm.l171, cka_i hm.k172 hm.l172, cka_i hm.k173 hm.l173, cka_i hm.k174 hm.l174, cka_i hm.k175 hm.l175, cka_i hm.k176 hm.l176, cka_i hm.k177 hm.l177, cka_i hm.k178 hm.l178, cka_i hm.k179 hm.l179, cka_i hm.k180 hm.l180, cka_i hm.k181 hm.l181, cka_i hm.k182 hm.l182, cka_i hm.k183 hm.l183, cka_i hm.k184 hm.l184, cka_i hm.k185 hm.l185, cka_i hm.k186 hm.l186, cka_i hm.k187 hm.l187, cka_i hm.k188 hm.l188, cka_i hm.k189 hm.l189, cka_i hm.k190 hm.l190, X3_inI, X1_inI, i32_64, b01_i0, b01_i1, i64_m1, i64_0, i64_1, i64_2, i64_3, i64_8, i64_9, i64_10, i64_12, i64_15, i64_18, i64_20, i64_24, i64_30, i64_39, i64_48, i64_57, i64_60, i64_99, i64_100, i64_999, i64_99999])
    rw [← hQ]
    unfold aVoyages nVoyages
    rw [if_neg hc, if_neg hc]
    exact ok_some ⟨rfl, M_thrown h _, FM_thrown⟩
