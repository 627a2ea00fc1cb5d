/-! A STEP of the model's row, whole -/
set_option maxRecDepth 100000
def Krow (a : Nat) (b j : Nat) : Prop := b ≠ a ∧ ¬ (b = 161 ∧ (j = 31 ∨ j = 32))
theorem Krow_M {a : Nat} (ha : a = 168 ∨ a = 169) (b j : Nat) (h : KM [0, 4] b j) : Krow a b j := by
  refine ⟨fun e => h ?_, fun e => h ?_⟩
  · subst e
    rcases ha with rfl | rfl
    · rw [show reg 168 j = 4 from rfl]; decide
    · rw [show reg 169 j = 0 from rfl]; decide
  · obtain ⟨rfl, rfl | rfl⟩ := e
    · decide
    · decide
theorem Krow_9 (b j : Nat) (h : KM [0] b j) : Krow 169 b j := by
  refine ⟨fun e => h ?_, fun e => h ?_⟩
  · subst e
    rw [show reg 169 j = 0 from rfl]; decide
  · obtain ⟨rfl, rfl | rfl⟩ := e
    · decide
    · decide
theorem stepW_foods (r r' : Rck) (e : Mes) (W : Wt) : (stepW r e W).food = (stepW r' e W).food := rfl
theorem X3_stepGoes {r : Rck} {e : Mes} {σ : vMem} {a : Nat} {W : Wt} {B : Int} (hM : ML σ ∧ 192 ≤ mn σ) (hR : mRck r σ) (gR : gRck r) (hE : mMes e σ) (gE : gMes e) (ha : a = 168 ∨ a = 169) (h : RowIs W (gi σ a)) (g : gW B W) (hB : B ≤ 900000) : ok (f_X3_stepGoes σ 161 a) (fun σ' => RowIs (stepW r e W) (gi σ' a) ∧ gi σ' 161 31 = gi σ 161 31 + i32 (hitN r (W.now + 1) (dueL (W.now + 1) W.ways W.lane)) ∧ gi σ' 161 32 = gi σ 161 32 + i32 (hungN e W) ∧ Fr (Krow a) 0 0 σ σ') := by
  have hn := hM.2
  have hm := hM.1
  have hk : knd σ a = 105 := by rcases ha with rfl | rfl; exact hm.k168; exact hm.k169
  have hl : len σ a = 57 := by rcases ha with rfl | rfl; exact hm.l168; exact hm.l169
  obtain ⟨⟨g1, g2, g3, g4, g5, g6, g7⟩, g8, g9, g10⟩ := g
  obtain ⟨r0, r1, r2, r3, r4, r5, r6⟩ := h
  unfold f_X3_stepGoes
  simp (disch := omega) only [vl_s, bp_s, bd_s, bv_s, i32_nl, i32_n, i32_add, i32_sub, i32_mul, i32_neg, i32_ca, i32_cm, i32_cs, i32_cn, i32_le, i32_lt, i32_eq, i32_cl, Int.toNat_natCast, if_pos, if_neg, ite_true, ite_false, not_true_eq_false, not_false_eq_true, Nat.add_zero, Nat.zero_add, Nat.add_sub_cancel, ck_p, cko_si, cka_si, cko_sl, cka_sl, gi_e, gi_x, gl_e, gl_x, gr_si, gl_si, gi_sl, gr_sl, cka_i hk hl, r0]
  refine ok_bv (X3_doesDue (W := (W.now + 1, W.2)) (by exact hk) (by exact hl) ⟨?_, ?_, ?_, ?_, ?_, fun k q hkq => ?_, fun m hm2 => ?_⟩ g7 (by show 0 ≤ W.now + 1; omega) (by show W.now + 1 ≤ 1000000; omega) g3 g4 (fun q hq => ?_) (by show a < mn σ; omega)) ?_
  · simp (disch := omega) only [cko_si, cka_si, cko_sl, cka_sl, gi_e, gi_x, gl_e, gl_x, gr_si, gl_si, gi_sl, gr_sl]; rfl
  · simp (disch := omega) only [cko_si, cka_si, cko_sl, cka_sl, gi_e, gi_x, gl_e, gl_x, gr_si, gl_si, gi_sl, gr_sl]; exact r1
  · simp (disch := omega) only [cko_si, cka_si, cko_sl, cka_sl, gi_e, gi_x, gl_e, gl_x, gr_si, gl_si, gi_sl, gr_sl]; exact r2
  · simp (disch := omega) only [cko_si, cka_si, cko_sl, cka_sl, gi_e, gi_x, gl_e, gl_x, gr_si, gl_si, gi_sl, gr_sl]; exact r3
  · simp (disch := omega) only [cko_si, cka_si, cko_sl, cka_sl, gi_e, gi_x, gl_e, gl_x, gr_si, gl_si, gi_sl, gr_sl]; exact r4
  · simp (disch := omega) only [cko_si, cka_si, cko_sl, cka_sl, gi_e, gi_x, gl_e, gl_x, gr_si, gl_si, gi_sl, gr_sl]; exact r5 k q hkq
  · simp (disch := omega) only [cko_si, cka_si, cko_sl, cka_sl, gi_e, gi_x, gl_e, gl_x, gr_si, gl_si, gi_sl, gr_sl]; exact r6 m hm2
  · have := g8 q hq
    omega
  rintro σ2 ⟨h2, F2⟩
  have F : Fr (Krow a) 0 0 σ σ2 := Fr.tr0 (Fr.rf.wi (fun q => q.1 rfl)) (F2.mono (fun b j q => q.1))
  have FM : Fr (KM [0, 4]) 0 0 σ σ2 := F.mono (Krow_M ha)
  have hM2 := ML.fr hM FM (by decide)
  have hm2 := hM2.1
  have hR2 := hR.fr FM hn (by decide)
  have hE2 := hE.fr FM hn (by decide)
  have hk2 : knd σ2 a = 105 := by rcases ha with rfl | rfl; exact hm2.k168; exact hm2.k169
  have hl2 : len σ2 a = 57 := by rcases ha with rfl | rfl; exact hm2.l168; exact hm2.l169
  obtain ⟨q0, q1, q2, q3, q4, q5, q6⟩ := h2
  have e31 : gi σ2 161 31 = gi σ 161 31 := (F2.i (k := 31) (by show 161 < mn σ; omega) (by show 161 ≠ a; omega)).trans (by simp (disch := omega) only [cko_si, cka_si, cko_sl, cka_sl, gi_e, gi_x, gl_e, gl_x, gr_si, gl_si, gi_sl, gr_sl])
  have e32 : gi σ2 161 32 = gi σ 161 32 := (F2.i (k := 32) (by show 161 < mn σ; omega) (by show 161 ≠ a; omega)).trans (by simp (disch := omega) only [cko_si, cka_si, cko_sl, cka_sl, gi_e, gi_x, gl_e, gl_x, gr_si, gl_si, gi_sl, gr_sl])
  have q0 : gi σ2 a 0 = i32 (W.now + 1) := q0
  have q1 : gi σ2 a 1 = i32 (dueL (W.now + 1) W.ways W.lane) := q1
  have q2 : gi σ2 a 2 = W.hits := q2
  have db := dueL_b (W.now + 1) W.ways W.lane g3 g4
  simp (disch := omega) only [vl_s, bp_s, bd_s, bv_s, i32_nl, i32_n, i32_add, i32_sub, i32_mul, i32_neg, i32_ca, i32_cm, i32_cs, i32_cn, i32_le, i32_lt, i32_eq, i32_cl, Int.toNat_natCast, if_pos, if_neg, ite_true, ite_false, not_true_eq_false, not_false_eq_true, Nat.add_zero, Nat.zero_add, Nat.add_sub_cancel, ck_p, cko_si, cka_si, cko_sl, cka_sl, gi_e, gi_x, gl_e, gl_x, gr_si, gl_si, gi_sl, gr_sl, cko_c hm2.k (show 3 ∈ [3] by decide), dr_c hm2.r2, dr_c hm2.r9, dr_c hm2.r10, dr_c hm2.r11, dr_c hm2.r12, dr_c hm2.r13, dr_c hm2.r14, dr_c hm2.r15, dr_c hm2.r16, dr_c hm2.r21, dr_c hm2.r23, dr_c hm2.r24, dr_c hm2.r27, dr_c hm2.r28, dr_c hm2.r30, dr_c hm2.r33, dr_c hm2.r34, dr_c hm2.r36, dr_c hm2.r37, dr_c hm2.r38, dr_c hm2.r41, dr_c hm2.r43, dr_c hm2.r44, dr_c hm2.r45, dr_c hm2.r46, dr_c hm2.r47, dr_c hm2.r50, dr_c hm2.r51, dr_c hm2.r52, cka_i hm2.k162 hm2.l162, cka_i hm2.k163 hm2.l163, cka_i hm2.k164 hm2.l164, cka_i hm2.k165 hm2.l165, cka_i hm2.k166 hm2.l166, cka_i hm2.k167 hm2.l167, cka_i hm2.k168 hm2.l168, cka_i hm2.k169 hm2.l169, cka_i hm2.k170 hm2.l170, cka_i hm2.k171 hm2.l171, cka_i hm2.k172 hm2.l172, cka_i hm2.k173 hm2.l173, cka_i hm2.k174 hm2.l174, cka_i hm2.k175 hm2.l175, cka_i hm2.k176 hm2.l176, cka_i hm2.k177 hm2.l177, cka_i hm2.k178 hm2.l178, cka_i hm2.k179 hm2.l179, cka_i hm2.k180 hm2.l180, cka_i hm2.k181 hm2.l181, cka_i hm2.k182 hm2.l182, cka_i hm2.k183 hm2.l183, cka_i hm2.k184 hm2.l184, cka_i hm2.k185 hm2.l185, cka_i hm2.k186 hm2.l186, cka_i hm2.k187 hm2.l187, cka_i hm2.k188 hm2.l188, cka_i hm2.k189 hm2.l189, cka_i hm2.k190 hm2.l190, cka_i hk2 hl2, q0, q1, q2, X3_hits hm2 hR2 gR, e31]
  generalize hσ3 : si (si σ2 a 2 (W.hits + i32 (hitN r (W.now + 1) (dueL (W.now + 1) W.ways W.lane)))) 161 31 (gi σ 161 31 + i32 (hitN r (W.now + 1) (dueL (W.now + 1) W.ways W.lane))) = σ3
  have F3 : Fr (Krow a) 0 0 σ2 σ3 := by
    rw [← hσ3]
    exact (Fr.rf.wi (fun q => q.1 rfl)).wi (fun q => q.2 ⟨rfl, Or.inl rfl⟩)
  have FM3 : Fr (KM [0, 4]) 0 0 σ2 σ3 := F3.mono (Krow_M ha)
  have hM3 := ML.fr hM2 FM3 (by decide)
  have hE3 := hE2.fr FM3 hM2.2 (by decide)
  refine ok_mono (X3_sg41 (W := W) hM3.1 hM3.2 hE3 gE ha (fun m hm => ?_) g9) ?_
  · subst hσ3
    simp (disch := omega) only [cko_si, cka_si, cko_sl, cka_sl, gi_e, gi_x, gl_e, gl_x, gr_si, gl_si, gi_sl, gr_sl]
    exact q6 m hm
  rintro σ4 ⟨s1, s2, F4⟩
  have f4 : ∀ j, j < 41 → gi σ4 a j = gi σ3 a j := fun j hj => F4.i (by have := hM3.2; omega) ⟨fun q => by omega, fun q => by omega⟩
  refine ⟨⟨?_, ?_, ?_, ?_, ?_, fun k q hkq => ?_, fun m hm2 => ?_⟩, ?_, ?_, (F.tr0 F3).tr0 (F4.mono (fun b j q => ⟨fun p => q.1 p.1, fun p => q.2 ⟨p.1, Or.inr p.2⟩⟩))⟩
  · rw [f4 _ (by omega)]; subst hσ3; simp (disch := omega) only [cko_si, cka_si, cko_sl, cka_sl, gi_e, gi_x, gl_e, gl_x, gr_si, gl_si, gi_sl, gr_sl]; exact q0
  · rw [f4 _ (by omega)]; subst hσ3; simp (disch := omega) only [cko_si, cka_si, cko_sl, cka_sl, gi_e, gi_x, gl_e, gl_x, gr_si, gl_si, gi_sl, gr_sl]; exact q1
  · rw [f4 _ (by omega)]; subst hσ3; simp (disch := omega) only [cko_si, cka_si, cko_sl, cka_sl, gi_e, gi_x, gl_e, gl_x, gr_si, gl_si, gi_sl, gr_sl]; rfl
  · rw [f4 _ (by omega)]; subst hσ3; simp (disch := omega) only [cko_si, cka_si, cko_sl, cka_sl, gi_e, gi_x, gl_e, gl_x, gr_si, gl_si, gi_sl, gr_sl]; exact q3
  · rw [f4 _ (by omega)]; subst hσ3; simp (disch := omega) only [cko_si, cka_si, cko_sl, cka_sl, gi_e, gi_x, gl_e, gl_x, gr_si, gl_si, gi_sl, gr_sl]; exact q4
  · have h8 : k < (leftL (W.now + 1) W.ways).length := (List.getElem?_eq_some_iff.mp hkq).1
    have h9 := leftL_len (W.now + 1) W.ways
    rw [f4 _ (by omega), f4 _ (by omega), f4 _ (by omega)]; subst hσ3; simp (disch := omega) only [cko_si, cka_si, cko_sl, cka_sl, gi_e, gi_x, gl_e, gl_x, gr_si, gl_si, gi_sl, gr_sl]; exact q5 k q hkq
  · exact s1 m hm2
  · rw [F4.i (by have := hM3.2; omega) ⟨fun q => by omega, fun q => by omega⟩]
    subst hσ3; simp (disch := omega) only [cko_si, cka_si, cko_sl, cka_sl, gi_e, gi_x, gl_e, gl_x, gr_si, gl_si, gi_sl, gr_sl]
  · rw [s2]
    subst hσ3; simp (disch := omega) only [cko_si, cka_si, cko_sl, cka_sl, gi_e, gi_x, gl_e, gl_x, gr_si, gl_si, gi_sl, gr_sl, e32]
