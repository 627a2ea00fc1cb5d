/-! THE MODEL'S ACTS: what was ordered -/
set_option maxRecDepth 100000
theorem M_laysSeen {S : St} {σ : vMem} {last : Nat} (h : RM S σ) (g : gSts S.sts) (hl : last ≤ 24) : ok (f_X3_laysSeen σ 161 (i32 last)) (fun σ' => RM S σ' ∧ Fr (KM [0]) 0 0 σ σ' ∧ ∀ k l, k ≤ last → l ≤ 8 → CntAt S last σ' k l) := by
  unfold f_X3_laysSeen
  refine loop2 (F := f_X3_laysSeen_2 161 (i32 last)) (last + 1) (fun i σ1 v => v = i32 ((last : Int) - i) ∧ RM S σ1 ∧ Fr (KM [0]) 0 0 σ σ1 ∧ ∀ k l, k ≤ last → last < k + i → l ≤ 8 → CntAt S last σ1 k l) ?_ FU 0 σ _ (by omega) ⟨by rw [Int.natCast_zero, Int.sub_zero], h, Fr.rf, fun k l h1 h2 => by omega⟩ (by unfold FU; omega)
  rintro n i σ1 v hi ⟨rfl, q1, F1, c1⟩ IH
  rw [f_X3_laysSeen_2.eq_2]
  by_cases d : i < last + 1
  · have ek : ((last : Int) - i) = ((last - i : Nat) : Int) := by omega
    rw [ek]
    (try simp (disch := omega) only [vl_s, bp_s, bd_s, bv_s, i32_nl, i32_n, i32_add, i32_sub, i32_mul, i32_neg, i32_ca, i32_cm, i32_cs, i32_cn, i32_le, i32_lt, i32_eq, i32_cl, Int.toNat_natCast, if_pos, if_neg, ite_true, ite_false, not_true_eq_false, not_false_eq_true, Nat.add_zero, Nat.zero_add, Nat.add_sub_cancel, ck_p, cko_si, cka_si, cko_sl, cka_sl, gi_e, gi_x, gl_e, gl_x, gr_si, gl_si, gi_sl, gr_sl])
    refine M_ls8 q1 g (by omega) hl (fun hk l hl8 => c1 _ l (by omega) (by omega) hl8) (fun σ2 q2 F2 o2 c2 => ?_)
    refine IH d _ _ ⟨?_, q2, F1.tr0 F2, fun k l h1 h2 h3 => ?_⟩
    · congr 1; omega
    · by_cases e : k = last - i
      · subst e; exact c2 l h3
      · have := c1 k l h1 (by omega) h3
        exact ⟨by rw [o2 _ _ (Or.inl rfl) (by omega)]; exact this.1, by rw [o2 _ _ (Or.inr rfl) (by omega)]; exact this.2⟩
  · have : i = last + 1 := by omega
    subst this
    (try simp (disch := omega) only [vl_s, bp_s, bd_s, bv_s, i32_nl, i32_n, i32_add, i32_sub, i32_mul, i32_neg, i32_ca, i32_cm, i32_cs, i32_cn, i32_le, i32_lt, i32_eq, i32_cl, Int.toNat_natCast, if_pos, if_neg, ite_true, ite_false, not_true_eq_false, not_false_eq_true, Nat.add_zero, Nat.zero_add, Nat.add_sub_cancel, ck_p, cko_si, cka_si, cko_sl, cka_sl, gi_e, gi_x, gl_e, gl_x, gr_si, gl_si, gi_sl, gr_sl])
    exact ok_some ⟨q1, F1, fun k l h1 h2 => c1 k l h1 (by omega) h2⟩
/-- the least order from which it goes on; where that leads -/
def stepV (S : St) (last k l : Nat) : Nat := if 0 < cnt S last k (clN l 0) then 0 else if 0 < cnt S last k (clN l 1) then 1 else 2
/-- in which lane she is behind some of those steps -/
def wayL (S : St) (last : Nat) : Nat → Nat
  | 0 => 4
  | k + 1 => clN (wayL S last k) (stepV S last (k + 1) (wayL S last k))
theorem wayL_b (S : St) (last : Nat) : ∀ k, wayL S last k ≤ 8
  | 0 => (by decide : (4 : Nat) ≤ 8)
  | k + 1 => clN_b _ _
theorem wayL_pos (S : St) {last : Nat} (h : 0 < cnt S last 0 4) : ∀ k, k ≤ last → 0 < cnt S last k (wayL S last k)
  | 0, _ => h
  | k + 1, hk => by
    have ih := wayL_pos S h k (by omega)
    have e := cntS_s S (l := wayL S last k) (show k < last by omega)
    have n0 : 0 ≤ cnt S last (k + 1) (clN (wayL S last k) 0) := cntD_0 _ _ _ _
    have n1 : 0 ≤ cnt S last (k + 1) (clN (wayL S last k) 1) := cntD_0 _ _ _ _
    have n2 : 0 ≤ cnt S last (k + 1) (clN (wayL S last k) 2) := cntD_0 _ _ _ _
    rw [e] at ih
    unfold wayL stepV
    by_cases c0 : 0 < cnt S last (k + 1) (clN (wayL S last k) 0)
    · rw [if_pos c0]; exact c0
    · rw [if_neg c0]
      by_cases c1 : 0 < cnt S last (k + 1) (clN (wayL S last k) 1)
      · rw [if_pos c1]; exact c1
      · rw [if_neg c1]
        split at ih
        · omega
        · omega
def lastN (S : St) : Nat := (lastF1 S).toNat
def aOrdered (S : St) : Int := if lastF1 S < 0 then -1 else min 1000000 (cnt S (lastN S) 0 4)
def nOrdered (S : St) : St := if lastF1 S < 0 then S else if 0 < cnt S (lastN S) 0 4 then rowsF S (fun k => (stepV S (lastN S) (k + 1) (wayL S (lastN S) k) : Int) - 1) (lastN S) else row0 S
theorem M_ord47 {S : St} {σ : vMem} {last k l : Nat} {r v2 v3 : Int32} {K : Int32 → Option (Int32 × vMem)} {Q : Int32 × vMem → Prop} (hm : ML σ) (hk : k ≤ last) (hl : last ≤ 24) (h2 : v2 = i32 l) (h3 : v3 = i32 k) (hl8 : l ≤ 8) (hc : ∀ l, l ≤ 8 → CntAt S last σ k l) (hex : 0 < cnt S last k (clN l (stepV S last k l))) (hK : ok (K (i32 ((stepV S last k l : Int) - 1))) Q) : ok (f_X3_ordered_47 161 r σ v2 v3 K FU (i32 (-1))) Q := by
  subst h2 h3
  have sv : stepV S last k l ≤ 2 := by unfold stepV; split; decide; split; decide; decide
  refine loop1 (F := f_X3_ordered_47 161 r σ (i32 l) (i32 k) K) (stepV S last k l) (fun i v => v = i32 ((i : Int) - 1)) ?_ FU 0 _ (by omega) rfl (by unfold FU; omega)
  rintro n i v hi rfl IH
  have ce := clN_i l i hl8 (by omega)
  have cl8 := clN_b l i
  have hci := (hc (clN l i) cl8).2
  have ep : ∀ τ : vMem, f_X3_put τ (i32 (l + ((i : Int) - 1))) = some (i32 (clN l i)) := fun τ => by rw [X3_put (by omega) (by omega), ce]
  rw [f_X3_ordered_47.eq_2]
  by_cases d : i < stepV S last k l
  · have z : ¬ 0 < cnt S last k (clN l i) := by
      intro hp
      unfold stepV at d
      by_cases c0 : 0 < cnt S last k (clN l 0)
      · rw [if_pos c0] at d; omega
      · rw [if_neg c0] at d
        by_cases c1 : 0 < cnt S last k (clN l 1)
        · rw [if_pos c1] at d
          have : i = 0 := by omega
          subst this
          exact c0 hp
        · rw [if_neg c1] at d
          have : i = 0 ∨ i = 1 := by omega
          rcases this with rfl | rfl
          · exact c0 hp
          · exact c1 hp
    rw [if_neg z] at hci
    have ei : i32 ((i : Int) - 1 + ((1 : Nat) : Int)) = i32 (((i + 1 : Nat) : Int) - 1) := by congr 1; omega
    (try simp (disch := omega) only [vl_s, bp_s, bd_s, bv_s, i32_nl, i32_n, i32_add, i32_sub, i32_mul, i32_neg, i32_ca, i32_cm, i32_cs, i32_cn, i32_le, i32_lt, i32_eq, i32_cl, Int.toNat_natCast, if_pos, if_neg, ite_true, ite_false, not_true_eq_false, not_false_eq_true, Nat.add_zero, Nat.zero_add, Nat.add_sub_cancel, ck_p, cko_si, cka_si, cko_sl, cka_sl, gi_e, gi_x, gl_e, gl_x, gr_si, gl_si, gi_sl, gr_sl, cko_c hm.k (show 3 ∈ [3] by decide), dr_c hm.r2, dr_c hm.r9, dr_c hm.r10, dr_c hm.r11, dr_c hm.r12, dr_c hm.r13, dr_c hm.r14, dr_c hm.r15, dr_c hm.r16, dr_c hm.r21, dr_c hm.r23, dr_c hm.r24, dr_c hm.r27, dr_c hm.r28, dr_c hm.r30, dr_c hm.r33, dr_c hm.r34, dr_c hm.r36, dr_c hm.r37, dr_c hm.r38, dr_c hm.r41, dr_c hm.r43, dr_c hm.r44, dr_c hm.r45, dr_c hm.r46, dr_c hm.r47, dr_c hm.r50, dr_c hm.r51, dr_c hm.r52, cka_i hm.k162 hm.l162, cka_i hm.k163 hm.l163, cka_i hm.k164 hm.l164, cka_i hm.k165 hm.l165, cka_i hm.k166 hm.l166, cka_i hm.k167 hm.l167, cka_i hm.k168 hm.l168, cka_i hm.k169 hm.l169, cka_i hm.k170 hm.l170, cka_i hm.k171 hm.l171, cka_i hm.k172 hm.l172, cka_i hm.k173 hm.l173, cka_i hm.k174 hm.l174, cka_i hm.k175 hm.l175, cka_i hm.k176 hm.l176, cka_i hm.k177 hm.l177, cka_i hm.k178 hm.l178, cka_i hm.k179 hm.l179, cka_i hm.k180 hm.l180, cka_i hm.k181 hm.l181, cka_i hm.k182 hm.l182, cka_i hm.k183 hm.l183, cka_i hm.k184 hm.l184, cka_i hm.k185 hm.l185, cka_i hm.k186 hm.l186, cka_i hm.k187 hm.l187, cka_i hm.k188 hm.l188, cka_i hm.k189 hm.l189, cka_i hm.k190 hm.l190, ep, hci])
    exact IH d _ ei
  · have : i = stepV S last k l := by omega
    rw [this] at hci ep cl8 ⊢
    rw [if_pos hex] at hci
    (try simp (disch := omega) only [vl_s, bp_s, bd_s, bv_s, i32_nl, i32_n, i32_add, i32_sub, i32_mul, i32_neg, i32_ca, i32_cm, i32_cs, i32_cn, i32_le, i32_lt, i32_eq, i32_cl, Int.toNat_natCast, if_pos, if_neg, ite_true, ite_false, not_true_eq_false, not_false_eq_true, Nat.add_zero, Nat.zero_add, Nat.add_sub_cancel, ck_p, cko_si, cka_si, cko_sl, cka_sl, gi_e, gi_x, gl_e, gl_x, gr_si, gl_si, gi_sl, gr_sl, cko_c hm.k (show 3 ∈ [3] by decide), dr_c hm.r2, dr_c hm.r9, dr_c hm.r10, dr_c hm.r11, dr_c hm.r12, dr_c hm.r13, dr_c hm.r14, dr_c hm.r15, dr_c hm.r16, dr_c hm.r21, dr_c hm.r23, dr_c hm.r24, dr_c hm.r27, dr_c hm.r28, dr_c hm.r30, dr_c hm.r33, dr_c hm.r34, dr_c hm.r36, dr_c hm.r37, dr_c hm.r38, dr_c hm.r41, dr_c hm.r43, dr_c hm.r44, dr_c hm.r45, dr_c hm.r46, dr_c hm.r47, dr_c hm.r50, dr_c hm.r51, dr_c hm.r52, cka_i hm.k162 hm.l162, cka_i hm.k163 hm.l163, cka_i hm.k164 hm.l164, cka_i hm.k165 hm.l165, cka_i hm.k166 hm.l166, cka_i hm.k167 hm.l167, cka_i hm.k168 hm.l168, cka_i hm.k169 hm.l169, cka_i hm.k170 hm.l170, cka_i hm.k171 hm.l171, cka_i hm.k172 hm.l172, cka_i hm.k173 hm.l173, cka_i hm.k174 hm.l174, cka_i hm.k175 hm.l175, cka_i hm.k176 hm.l176, cka_i hm.k177 hm.l177, cka_i hm.k178 hm.l178, cka_i hm.k179 hm.l179, cka_i hm.k180 hm.l180, cka_i hm.k181 hm.l181, cka_i hm.k182 hm.l182, cka_i hm.k183 hm.l183, cka_i hm.k184 hm.l184, cka_i hm.k185 hm.l185, cka_i hm.k186 hm.l186, cka_i hm.k187 hm.l187, cka_i hm.k188 hm.l188, cka_i hm.k189 hm.l189, cka_i hm.k190 hm.l190, ep, hci])
    exact hK
theorem M_ordered {S : St} {σ : vMem} {B : Int} (h : RM S σ) (g : gSt B S) : ok (f_X3_ordered σ 161) (fun r => r.1 = i32 (aOrdered S) ∧ RM (nOrdered S) r.2 ∧ FM σ r.2) := by
  have hm := h.ml
  have q0 := M_thrown h (i32 ((0 : Nat) : Int))
  have hl := M_lastSeen q0.ml q0.sts g.sts
  have lb := lastF1_b g.sts
  generalize hQ : (fun r : Int32 × vMem => r.1 = i32 (aOrdered S) ∧ RM (nOrdered S) r.2 ∧ FM σ r.2) = Q
  have hl : f_X3_lastSeen (si σ 161 0 (i32 ((0 : Nat) : Int))) 161 = some (i32 (lastF1 S)) := hl
  unfold f_X3_ordered
  by_cases c : lastF1 S < 0
  · (try simp (disch := omega) only [vl_s, bp_s, bd_s, bv_s, i32_nl, i32_n, i32_add, i32_sub, i32_mul, i32_neg, i32_ca, i32_cm, i32_cs, i32_cn, i32_le, i32_lt, i32_eq, i32_cl, Int.toNat_natCast, if_pos, if_neg, ite_true, ite_false, not_true_eq_false, not_false_eq_true, Nat.add_zero, Nat.zero_add, Nat.add_sub_cancel, ck_p, cko_si, cka_si, cko_sl, cka_sl, gi_e, gi_x, gl_e, gl_x, gr_si, gl_si, gi_sl, gr_sl, cko_c hm.k (show 3 ∈ [3] by decide), dr_c hm.r2, dr_c hm.r9, dr_c hm.r10, dr_c hm.r11, dr_c hm.r12, dr_c hm.r13, dr_c hm.r14, dr_c hm.r15, dr_c hm.r16, dr_c hm.r21, dr_c hm.r23, dr_c hm.r24, dr_c hm.r27, dr_c hm.r28, dr_c hm.r30, dr_c hm.r33, dr_c hm.r34, dr_c hm.r36, dr_c hm.r37, dr_c hm.r38, dr_c hm.r41, dr_c hm.r43, dr_c hm.r44, dr_c hm.r45, dr_c hm.r46, dr_c hm.r47, dr_c hm.r50, dr_c hm.r51, dr_c hm.r52, cka_i hm.k162 hm.l162, cka_i hm.k163 hm.l163, cka_i hm.k164 hm.l164, cka_i hm.k165 hm.l165, cka_i hm.k166 hm.l166, cka_i hm.k167 hm.l167, cka_i hm.k168 hm.l168, cka_i hm.k169 hm.l169, cka_i hm.k170 hm.l170, cka_i hm.k171 hm.l171, cka_i hm.k172 hm.l172, cka_i hm.k173 hm.l173, cka_i hm.k174 hm.l174, cka_i hm.k175 hm.l175, cka_i hm.k176 hm.l176, cka_i hm.k177 hm.l177, cka_i hm.k178 hm.l178, cka_i hm.k179 hm.l179, cka_i hm.k180 hm.l180, cka_i hm.k181 hm.l181, cka_i hm.k182 hm.l182, cka_i hm.k183 hm.l183, cka_i hm.k184 hm.l184, cka_i hm.k185 hm.l185, cka_i hm.k186 hm.l186, cka_i hm.k187 hm.l187, cka_i hm.k188 hm.l188, cka_i hm.k189 hm.l189, cka_i hm.k190 hm.l190, hl])
    rw [← hQ]
    unfold aOrdered nOrdered
    rw [if_pos c, if_pos c]
    exact ok_some ⟨rfl, q0, FM_thrown⟩
  · obtain ⟨last, hlast⟩ : ∃ last : Nat, lastF1 S = last := ⟨(lastF1 S).toNat, by omega⟩
    have hlN : lastN S = last := by unfold lastN; rw [hlast]; rfl
    rw [hlast] at hl lb
    (try simp (disch := omega) only [vl_s, bp_s, bd_s, bv_s, i32_nl, i32_n, i32_add, i32_sub, i32_mul, i32_neg, i32_ca, i32_cm, i32_cs, i32_cn, i32_le, i32_lt, i32_eq, i32_cl, Int.toNat_natCast, if_pos, if_neg, ite_true, ite_false, not_true_eq_false, not_false_eq_true, Nat.add_zero, Nat.zero_add, Nat.add_sub_cancel, ck_p, cko_si, cka_si, cko_sl, cka_sl, gi_e, gi_x, gl_e, gl_x, gr_si, gl_si, gi_sl, gr_sl, cko_c hm.k (show 3 ∈ [3] by decide), dr_c hm.r2, dr_c hm.r9, dr_c hm.r10, dr_c hm.r11, dr_c hm.r12, dr_c hm.r13, dr_c hm.r14, dr_c hm.r15, dr_c hm.r16, dr_c hm.r21, dr_c hm.r23, dr_c hm.r24, dr_c hm.r27, dr_c hm.r28, dr_c hm.r30, dr_c hm.r33, dr_c hm.r34, dr_c hm.r36, dr_c hm.r37, dr_c hm.r38, dr_c hm.r41, dr_c hm.r43, dr_c hm.r44, dr_c hm.r45, dr_c hm.r46, dr_c hm.r47, dr_c hm.r50, dr_c hm.r51, dr_c hm.r52, cka_i hm.k162 hm.l162, cka_i hm.k163 hm.l163, cka_i hm.k164 hm.l164, cka_i hm.k165 hm.l165, cka_i hm.k166 hm.l166, cka_i hm.k167 hm.l167, cka_i hm.k168 hm.l168, cka_i hm.k169 hm.l169, cka_i hm.k170 hm.l170, cka_i hm.k171 hm.l171, cka_i hm.k172 hm.l172, cka_i hm.k173 hm.l173, cka_i hm.k174 hm.l174, cka_i hm.k175 hm.l175, cka_i hm.k176 hm.l176, cka_i hm.k177 hm.l177, cka_i hm.k178 hm.l178, cka_i hm.k179 hm.l179, cka_i hm.k180 hm.l180, cka_i hm.k181 hm.l181, cka_i hm.k182 hm.l182, cka_i hm.k183 hm.l183, cka_i hm.k184 hm.l184, cka_i hm.k185 hm.l185, cka_i hm.k186 hm.l186, cka_i hm.k187 hm.l187, cka_i hm.k188 hm.l188, cka_i hm.k189 hm.l189, cka_i hm.k190 hm.l190, hl])
    refine ok_bv (M_laysSeen q0 g.sts (by omega)) ?_
    rintro σ1 ⟨q1, F1, c1⟩
    have hm1 := q1.ml
    have c04 := (c1 0 4 (by omega) (by omega)).2
    (try simp (disch := omega) only [vl_s, bp_s, bd_s, bv_s, i32_nl, i32_n, i32_add, i32_sub, i32_mul, i32_neg, i32_ca, i32_cm, i32_cs, i32_cn, i32_le, i32_lt, i32_eq, i32_cl, Int.toNat_natCast, if_pos, if_neg, ite_true, ite_false, not_true_eq_false, not_false_eq_true, Nat.add_zero, Nat.zero_add, Nat.add_sub_cancel, ck_p, cko_si, cka_si, cko_sl, cka_sl, gi_e, gi_x, gl_e, gl_x, gr_si, gl_si, gi_sl, gr_sl, cko_c hm1.k (show 3 ∈ [3] by decide), dr_c hm1.r2, dr_c hm1.r9, dr_c hm1.r10, dr_c hm1.r11, dr_c hm1.r12, dr_c hm1.r13, dr_c hm1.r14, dr_c hm1.r15, dr_c hm1.r16, dr_c hm1.r21, dr_c hm1.r23, dr_c hm1.r24, dr_c hm1.r27, dr_c hm1.r28, dr_c hm1.r30, dr_c hm1.r33, dr_c hm1.r34, dr_c hm1.r36, dr_c hm1.r37, dr_c hm1.r38, dr_c hm1.r41, dr_c hm1.r43, dr_c hm1.r44, dr_c hm1.r45, dr_c hm1.r46, dr_c hm1.r47, dr_c hm1.r50, dr_c hm1.r51, dr_c hm1.r52, cka_i hm1.k162 hm1.l162, cka_i hm1.k163 hm1.l163, cka_i hm1.k164 hm1.l164, cka_i hm1.k165 hm1.l165, cka_i hm1.k166 hm1.l166, cka_i hm1.k167 hm1.l167, cka_i hm1.k168 hm1.l168, cka_i hm1.k169 hm1.l169, cka_i hm1.k170 hm1.l170, cka_i hm1.k171 hm1.l171, cka_i hm1.k172 hm1.l172, cka_i hm1.k173 hm1.l173, cka_i hm1.k174 hm1.l174, cka_i hm1.k175 hm1.l175, cka_i hm1.k176 hm1.l176, cka_i hm1.k177 hm1.l177, cka_i hm1.k178 hm1.l178, cka_i hm1.k179 hm1.l179, cka_i hm1.k180 hm1.l180, cka_i hm1.k181 hm1.l181, cka_i hm1.k182 hm1.l182, cka_i hm1.k183 hm1.l183, cka_i hm1.k184 hm1.l184, cka_i hm1.k185 hm1.l185, cka_i hm1.k186 hm1.l186, cka_i hm1.k187 hm1.l187, cka_i hm1.k188 hm1.l188, cka_i hm1.k189 hm1.l189, cka_i hm1.k190 hm1.l190])
    have FF : FM σ (si σ1 161 1 (i32 ((0 : Nat) : Int))) := (FM_thrown.tr0 (F1.rsm (by decide))).tr0 (F_row0.rsm (by decide))
    have hn1 := q1.mn
    have cnt0 : 0 ≤ cnt S last 0 4 := cntD_0 _ _ _ _
    have cc : ∀ k l, k ≤ last → l ≤ 8 → CntAt S last (si σ1 161 1 (i32 ((0 : Nat) : Int))) k l := fun k l h1 h2 => ⟨by rw [gi_x (by omega)]; exact (c1 k l h1 h2).1, by rw [gi_x (by omega)]; exact (c1 k l h1 h2).2⟩
    have fin : ∀ σ2 S2, RM S2 σ2 → FM σ σ2 → nOrdered S = S2 → gi σ2 185 4 = i32 (min 1000000 (cnt S last 0 4)) → ok (some (gi σ2 185 4, σ2)) Q := by
      intro σ2 S2 r2 G2 e1 e2
      rw [← hQ, e1, e2]
      unfold aOrdered
      rw [if_neg c, hlN]
      exact ok_some ⟨rfl, r2, G2⟩
    by_cases cz : 0 < cnt S last 0 4
    · have en : nOrdered S = rowsF S (fun k => (stepV S last (k + 1) (wayL S last k) : Int) - 1) last := by unfold nOrdered; rw [if_neg c, hlN, if_pos cz]
      refine loop3 (F := f_X3_ordered_30 161 (i32 last) _) last (fun k σ2 v2 v3 => v3 = i32 (k + 1 : Nat) ∧ v2 = i32 (wayL S last k) ∧ RM (rowsF S (fun k => (stepV S last (k + 1) (wayL S last k) : Int) - 1) k) σ2 ∧ FM σ σ2 ∧ ∀ k l, k ≤ last → l ≤ 8 → CntAt S last σ2 k l) ?_ FU 0 _ _ _ (by omega) ⟨rfl, rfl, M_row0 q1, FF, cc⟩ (by unfold FU; omega)
      rintro n k σ2 v2 v3 hk ⟨rfl, rfl, q2, G2, c2⟩ IH
      have hm2 := q2.ml
      have e4 := (c2 0 4 (by omega) (by omega)).2
      rw [if_pos cz] at e4
      have e4 : gi σ2 186 4 = i32 ((1 : Nat) : Int) := e4
      have m4 : gi σ2 185 4 = i32 (min 1000000 (cnt S last 0 4)) := (c2 0 4 (by omega) (by omega)).1
      have wb := wayL_b S last k
      rw [f_X3_ordered_30.eq_2]
      by_cases d : k < last
      · have wp := wayL_pos S cz (k + 1) (by omega)
        have hr := rowsF_row S (fun k => (stepV S last (k + 1) (wayL S last k) : Int) - 1) k
        have sv : stepV S last (k + 1) (wayL S last k) ≤ 2 := by unfold stepV; split; decide; split; decide; decide
        have ce := clN_i (wayL S last k) (stepV S last (k + 1) (wayL S last k)) wb sv
        have ep : ∀ τ : vMem, f_X3_put τ (i32 (wayL S last k + ((stepV S last (k + 1) (wayL S last k) : Int) - 1))) = some (i32 (wayL S last (k + 1))) := fun τ => by rw [X3_put (by omega) (by omega), ce]; rfl
        (try simp (disch := omega) only [vl_s, bp_s, bd_s, bv_s, i32_nl, i32_n, i32_add, i32_sub, i32_mul, i32_neg, i32_ca, i32_cm, i32_cs, i32_cn, i32_le, i32_lt, i32_eq, i32_cl, Int.toNat_natCast, if_pos, if_neg, ite_true, ite_false, not_true_eq_false, not_false_eq_true, Nat.add_zero, Nat.zero_add, Nat.add_sub_cancel, ck_p, cko_si, cka_si, cko_sl, cka_sl, gi_e, gi_x, gl_e, gl_x, gr_si, gl_si, gi_sl, gr_sl, cko_c hm2.k (show 3 ∈ [3] by decide), dr_c hm2.r2, dr_c hm2.r9, dr_c hm2.r10, dr_c hm2.r11, dr_c hm2.r12, dr_c hm2.r13, dr_c hm2.r14, dr_c hm2.r15, dr_c hm2.r16, dr_c hm2.r21, dr_c hm2.r23, dr_c hm2.r24, dr_c hm2.r27, dr_c hm2.r28, dr_c hm2.r30, dr_c hm2.r33, dr_c hm2.r34, dr_c hm2.r36, dr_c hm2.r37, dr_c hm2.r38, dr_c hm2.r41, dr_c hm2.r43, dr_c hm2.r44, dr_c hm2.r45, dr_c hm2.r46, dr_c hm2.r47, dr_c hm2.r50, dr_c hm2.r51, dr_c hm2.r52, cka_i hm2.k162 hm2.l162, cka_i hm2.k163 hm2.l163, cka_i hm2.k164 hm2.l164, cka_i hm2.k165 hm2.l165, cka_i hm2.k166 hm2.l166, cka_i hm2.k167 hm2.l167, cka_i hm2.k168 hm2.l168, cka_i hm2.k169 hm2.l169, cka_i hm2.k170 hm2.l170, cka_i hm2.k171 hm2.l171, cka_i hm2.k172 hm2.l172, cka_i hm2.k173 hm2.l173, cka_i hm2.k174 hm2.l174, cka_i hm2.k175 hm2.l175, cka_i hm2.k176 hm2.l176, cka_i hm2.k177 hm2.l177, cka_i hm2.k178 hm2.l178, cka_i hm2.k179 hm2.l179, cka_i hm2.k180 hm2.l180, cka_i hm2.k181 hm2.l181, cka_i hm2.k182 hm2.l182, cka_i hm2.k183 hm2.l183, cka_i hm2.k184 hm2.l184, cka_i hm2.k185 hm2.l185, cka_i hm2.k186 hm2.l186, cka_i hm2.k187 hm2.l187, cka_i hm2.k188 hm2.l188, cka_i hm2.k189 hm2.l189, cka_i hm2.k190 hm2.l190, e4])
        refine M_ord47 hm2 (show k + 1 ≤ last by omega) (by omega) rfl rfl wb (fun l hl8 => c2 _ l (by omega) hl8) wp ?_
        (try simp (disch := omega) only [vl_s, bp_s, bd_s, bv_s, i32_nl, i32_n, i32_add, i32_sub, i32_mul, i32_neg, i32_ca, i32_cm, i32_cs, i32_cn, i32_le, i32_lt, i32_eq, i32_cl, Int.toNat_natCast, if_pos, if_neg, ite_true, ite_false, not_true_eq_false, not_false_eq_true, Nat.add_zero, Nat.zero_add, Nat.add_sub_cancel, ck_p, cko_si, cka_si, cko_sl, cka_sl, gi_e, gi_x, gl_e, gl_x, gr_si, gl_si, gi_sl, gr_sl, cko_c hm2.k (show 3 ∈ [3] by decide), dr_c hm2.r2, dr_c hm2.r9, dr_c hm2.r10, dr_c hm2.r11, dr_c hm2.r12, dr_c hm2.r13, dr_c hm2.r14, dr_c hm2.r15, dr_c hm2.r16, dr_c hm2.r21, dr_c hm2.r23, dr_c hm2.r24, dr_c hm2.r27, dr_c hm2.r28, dr_c hm2.r30, dr_c hm2.r33, dr_c hm2.r34, dr_c hm2.r36, dr_c hm2.r37, dr_c hm2.r38, dr_c hm2.r41, dr_c hm2.r43, dr_c hm2.r44, dr_c hm2.r45, dr_c hm2.r46, dr_c hm2.r47, dr_c hm2.r50, dr_c hm2.r51, dr_c hm2.r52, cka_i hm2.k162 hm2.l162, cka_i hm2.k163 hm2.l163, cka_i hm2.k164 hm2.l164, cka_i hm2.k165 hm2.l165, cka_i hm2.k166 hm2.l166, cka_i hm2.k167 hm2.l167, cka_i hm2.k168 hm2.l168, cka_i hm2.k169 hm2.l169, cka_i hm2.k170 hm2.l170, cka_i hm2.k171 hm2.l171, cka_i hm2.k172 hm2.l172, cka_i hm2.k173 hm2.l173, cka_i hm2.k174 hm2.l174, cka_i hm2.k175 hm2.l175, cka_i hm2.k176 hm2.l176, cka_i hm2.k177 hm2.l177, cka_i hm2.k178 hm2.l178, cka_i hm2.k179 hm2.l179, cka_i hm2.k180 hm2.l180, cka_i hm2.k181 hm2.l181, cka_i hm2.k182 hm2.l182, cka_i hm2.k183 hm2.l183, cka_i hm2.k184 hm2.l184, cka_i hm2.k185 hm2.l185, cka_i hm2.k186 hm2.l186, cka_i hm2.k187 hm2.l187, cka_i hm2.k188 hm2.l188, cka_i hm2.k189 hm2.l189, cka_i hm2.k190 hm2.l190])
        refine ok_bv (M_enters q2 (by omega) _) ?_
        rintro σ3 ⟨q3, F3⟩
        (try simp (disch := omega) only [vl_s, bp_s, bd_s, bv_s, i32_nl, i32_n, i32_add, i32_sub, i32_mul, i32_neg, i32_ca, i32_cm, i32_cs, i32_cn, i32_le, i32_lt, i32_eq, i32_cl, Int.toNat_natCast, if_pos, if_neg, ite_true, ite_false, not_true_eq_false, not_false_eq_true, Nat.add_zero, Nat.zero_add, Nat.add_sub_cancel, ck_p, cko_si, cka_si, cko_sl, cka_sl, gi_e, gi_x, gl_e, gl_x, gr_si, gl_si, gi_sl, gr_sl, ep])
        have hn2 := q2.mn
        exact IH d _ _ _ ⟨rfl, rfl, q3, G2.tr0 (F3.rsm (by decide)), fun k l h1 h2 => ⟨by rw [F3.gM (t := 0) (by decide) 185 _ (by omega) rfl]; exact (c2 k l h1 h2).1, by rw [F3.gM (t := 0) (by decide) 186 _ (by omega) rfl]; exact (c2 k l h1 h2).2⟩⟩
      · have : k = last := by omega
        subst this
        (try simp (disch := omega) only [vl_s, bp_s, bd_s, bv_s, i32_nl, i32_n, i32_add, i32_sub, i32_mul, i32_neg, i32_ca, i32_cm, i32_cs, i32_cn, i32_le, i32_lt, i32_eq, i32_cl, Int.toNat_natCast, if_pos, if_neg, ite_true, ite_false, not_true_eq_false, not_false_eq_true, Nat.add_zero, Nat.zero_add, Nat.add_sub_cancel, ck_p, cko_si, cka_si, cko_sl, cka_sl, gi_e, gi_x, gl_e, gl_x, gr_si, gl_si, gi_sl, gr_sl, cko_c hm2.k (show 3 ∈ [3] by decide), dr_c hm2.r2, dr_c hm2.r9, dr_c hm2.r10, dr_c hm2.r11, dr_c hm2.r12, dr_c hm2.r13, dr_c hm2.r14, dr_c hm2.r15, dr_c hm2.r16, dr_c hm2.r21, dr_c hm2.r23, dr_c hm2.r24, dr_c hm2.r27, dr_c hm2.r28, dr_c hm2.r30, dr_c hm2.r33, dr_c hm2.r34, dr_c hm2.r36, dr_c hm2.r37, dr_c hm2.r38, dr_c hm2.r41, dr_c hm2.r43, dr_c hm2.r44, dr_c hm2.r45, dr_c hm2.r46, dr_c hm2.r47, dr_c hm2.r50, dr_c hm2.r51, dr_c hm2.r52, cka_i hm2.k162 hm2.l162, cka_i hm2.k163 hm2.l163, cka_i hm2.k164 hm2.l164, cka_i hm2.k165 hm2.l165, cka_i hm2.k166 hm2.l166, cka_i hm2.k167 hm2.l167, cka_i hm2.k168 hm2.l168, cka_i hm2.k169 hm2.l169, cka_i hm2.k170 hm2.l170, cka_i hm2.k171 hm2.l171, cka_i hm2.k172 hm2.l172, cka_i hm2.k173 hm2.l173, cka_i hm2.k174 hm2.l174, cka_i hm2.k175 hm2.l175, cka_i hm2.k176 hm2.l176, cka_i hm2.k177 hm2.l177, cka_i hm2.k178 hm2.l178, cka_i hm2.k179 hm2.l179, cka_i hm2.k180 hm2.l180, cka_i hm2.k181 hm2.l181, cka_i hm2.k182 hm2.l182, cka_i hm2.k183 hm2.l183, cka_i hm2.k184 hm2.l184, cka_i hm2.k185 hm2.l185, cka_i hm2.k186 hm2.l186, cka_i hm2.k187 hm2.l187, cka_i hm2.k188 hm2.l188, cka_i hm2.k189 hm2.l189, cka_i hm2.k190 hm2.l190])
        exact fin σ2 _ q2 G2 en m4
    · have en : nOrdered S = row0 S := by unfold nOrdered; rw [if_neg c, hlN, if_neg cz]
      rw [if_neg cz] at c04
      have c04 : gi σ1 186 4 = i32 ((0 : Nat) : Int) := c04
      have m4 : gi (si σ1 161 1 (i32 ((0 : Nat) : Int))) 185 4 = i32 (min 1000000 (cnt S last 0 4)) := (cc 0 4 (by omega) (by omega)).1
      rw [show FU = 1048575 + 1 from rfl, f_X3_ordered_30.eq_2]
      by_cases d : (last : Int) < 1
      · (try simp (disch := omega) only [vl_s, bp_s, bd_s, bv_s, i32_nl, i32_n, i32_add, i32_sub, i32_mul, i32_neg, i32_ca, i32_cm, i32_cs, i32_cn, i32_le, i32_lt, i32_eq, i32_cl, Int.toNat_natCast, if_pos, if_neg, ite_true, ite_false, not_true_eq_false, not_false_eq_true, Nat.add_zero, Nat.zero_add, Nat.add_sub_cancel, ck_p, cko_si, cka_si, cko_sl, cka_sl, gi_e, gi_x, gl_e, gl_x, gr_si, gl_si, gi_sl, gr_sl, cko_c hm1.k (show 3 ∈ [3] by decide), dr_c hm1.r2, dr_c hm1.r9, dr_c hm1.r10, dr_c hm1.r11, dr_c hm1.r12, dr_c hm1.r13, dr_c hm1.r14, dr_c hm1.r15, dr_c hm1.r16, dr_c hm1.r21, dr_c hm1.r23, dr_c hm1.r24, dr_c hm1.r27, dr_c hm1.r28, dr_c hm1.r30, dr_c hm1.r33, dr_c hm1.r34, dr_c hm1.r36, dr_c hm1.r37, dr_c hm1.r38, dr_c hm1.r41, dr_c hm1.r43, dr_c hm1.r44, dr_c hm1.r45, dr_c hm1.r46, dr_c hm1.r47, dr_c hm1.r50, dr_c hm1.r51, dr_c hm1.r52, cka_i hm1.k162 hm1.l162, cka_i hm1.k163 hm1.l163, cka_i hm1.k164 hm1.l164, cka_i hm1.k165 hm1.l165, cka_i hm1.k166 hm1.l166, cka_i hm1.k167 hm1.l167, cka_i hm1.k168 hm1.l168, cka_i hm1.k169 hm1.l169, cka_i hm1.k170 hm1.l170, cka_i hm1.k171 hm1.l171, cka_i hm1.k172 hm1.l172, cka_i hm1.k173 hm1.l173, cka_i hm1.k174 hm1.l174, cka_i hm1.k175 hm1.l175, cka_i hm1.k176 hm1.l176, cka_i hm1.k177 hm1.l177, cka_i hm1.k178 hm1.l178, cka_i hm1.k179 hm1.l179, cka_i hm1.k180 hm1.l180, cka_i hm1.k181 hm1.l181, cka_i hm1.k182 hm1.l182, cka_i hm1.k183 hm1.l183, cka_i hm1.k184 hm1.l184, cka_i hm1.k185 hm1.l185, cka_i hm1.k186 hm1.l186, cka_i hm1.k187 hm1.l187, cka_i hm1.k188 hm1.l188, cka_i hm1.k189 hm1.l189, cka_i hm1.k190 hm1.l190])
        exact fin _ _ (M_row0 q1) FF en m4
      · (try simp (disch := omega) only [vl_s, bp_s, bd_s, bv_s, i32_nl, i32_n, i32_add, i32_sub, i32_mul, i32_neg, i32_ca, i32_cm, i32_cs, i32_cn, i32_le, i32_lt, i32_eq, i32_cl, Int.toNat_natCast, if_pos, if_neg, ite_true, ite_false, not_true_eq_false, not_false_eq_true, Nat.add_zero, Nat.zero_add, Nat.add_sub_cancel, ck_p, cko_si, cka_si, cko_sl, cka_sl, gi_e, gi_x, gl_e, gl_x, gr_si, gl_si, gi_sl, gr_sl, cko_c hm1.k (show 3 ∈ [3] by decide), dr_c hm1.r2, dr_c hm1.r9, dr_c hm1.r10, dr_c hm1.r11, dr_c hm1.r12, dr_c hm1.r13, dr_c hm1.r14, dr_c hm1.r15, dr_c hm1.r16, dr_c hm1.r21, dr_c hm1.r23, dr_c hm1.r24, dr_c hm1.r27, dr_c hm1.r28, dr_c hm1.r30, dr_c hm1.r33, dr_c hm1.r34, dr_c hm1.r36, dr_c hm1.r37, dr_c hm1.r38, dr_c hm1.r41, dr_c hm1.r43, dr_c hm1.r44, dr_c hm1.r45, dr_c hm1.r46, dr_c hm1.r47, dr_c hm1.r50, dr_c hm1.r51, dr_c hm1.r52, cka_i hm1.k162 hm1.l162, cka_i hm1.k163 hm1.l163, cka_i hm1.k164 hm1.l164, cka_i hm1.k165 hm1.l165, cka_i hm1.k166 hm1.l166, cka_i hm1.k167 hm1.l167, cka_i hm1.k168 hm1.l168, cka_i hm1.k169 hm1.l169, cka_i hm1.k170 hm1.l170, cka_i hm1.k171 hm1.l171, cka_i hm1.k172 hm1.l172, cka_i hm1.k173 hm1.l173, cka_i hm1.k174 hm1.l174, cka_i hm1.k175 hm1.l175, cka_i hm1.k176 hm1.l176, cka_i hm1.k177 hm1.l177, cka_i hm1.k178 hm1.l178, cka_i hm1.k179 hm1.l179, cka_i hm1.k180 hm1.l180, cka_i hm1.k181 hm1.l181, cka_i hm1.k182 hm1.l182, cka_i hm1.k183 hm1.l183, cka_i hm1.k184 hm1.l184, cka_i hm1.k185 hm1.l185, cka_i hm1.k186 hm1.l186, cka_i hm1.k187 hm1.l187, cka_i hm1.k188 hm1.l188, cka_i hm1.k189 hm1.l189, cka_i hm1.k190 hm1.l190, c04])
        exact fin _ _ (M_row0 q1) FF en m4
