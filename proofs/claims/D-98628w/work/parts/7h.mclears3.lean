/-! THE MODEL'S ACTS: rocks that can be cleared, the act -/
set_option maxRecDepth 100000
def othB (p : Nat → Bool) (k : Nat) : Bool := (List.range 9).any (fun l => p l && !decide (l = k))
theorem othB_f {p : Nat → Bool} {k : Nat} : othB p k = false ↔ ∀ l, l < 9 → p l = true → l = k := by
  unfold othB
  rw [List.any_eq_false]
  constructor
  · intro h l hl hp
    have := h l (List.mem_range.mpr hl)
    rw [hp, Bool.true_and] at this
    by_cases e : l = k
    · exact e
    · rw [decide_eq_false e] at this; exact absurd rfl this
  · intro h l hl hp
    cases hpl : p l with
    | false => rw [hpl, Bool.false_and] at hp; cases hp
    | true =>
      rw [hpl, decide_eq_true (h l (List.mem_range.mp hl) hpl)] at hp
      cases hp
def canR (S : St) : Nat → (Nat → Bool)
  | 0 => fun _ => false
  | t + 1 => fun r => canR S t r || (decide (S.rck.2.1 r = S.now.now + (t + 1 : Nat)) && othB (lnsP S (t + 1)) (S.rck.2.2 r).toNat)
def aClears (S : St) : Int32 := bitsI (canR S (farF S S.rck.1).toNat) S.rck.1
def nClears (S : St) : St := rowA (row0 S) (Int32.toInt64 (bitsI (fun r => ahB S r && !canR S (farF S S.rck.1).toNat r) S.rck.1))
theorem farF_b {S : St} {B : Int} (g : gSt B S) : ∀ r, r ≤ S.rck.1 → 0 ≤ farF S r ∧ farF S r ≤ 999
  | 0, _ => ⟨Int.le_refl _, by show (0 : Int) ≤ 999; decide⟩
  | r + 1, h => by
    have ih := farF_b g r (by omega)
    have gr := g.rck.2 r (by omega)
    have n1 := g.now.1.1
    unfold farF
    split <;> omega
theorem M_cl180 {S : St} {σ : vMem} {B : Int} {v1 v2 : Int32} {t : Nat} {p q : Nat → Bool} {K : Int32 → Option (Int32 × vMem)} {Q : Int32 × vMem → Prop} (h : RM S σ) (g : gSt B S) (hB : B ≤ 900000) (ht : t ≤ 1000) (hK : ok (K (bitsI (fun r => q r || (decide (S.rck.2.1 r = S.now.now + t) && othB p (S.rck.2.2 r).toNat)) S.rck.1)) Q) : ok (f_X3_clears_180 161 v1 v2 (i32 t) σ (bitsI p 9) K FU (bitsI q S.rck.1) (i32 ((0 : Nat) : Int))) Q := by
  have hm := h.ml
  have e6 := h.rck.1
  have e0 := h.now.1
  have g16 := g.rck.1
  obtain ⟨⟨n1, n2, n3⟩, n4⟩ := g.now
  refine loop2 (F := f_X3_clears_180 161 v1 v2 (i32 t) σ (bitsI p 9) K) S.rck.1 (fun i a x => x = i32 i ∧ a = bitsI (fun r => q r || (decide (r < i) && (decide (S.rck.2.1 r = S.now.now + t) && othB p (S.rck.2.2 r).toNat))) S.rck.1) ?_ FU 0 _ _ (by omega) ⟨rfl, bitsI_eq (fun r _ => by rw [decide_eq_false (by omega), Bool.false_and, Bool.or_false])⟩ (by unfold FU; omega)
  rintro n i a x hi ⟨rfl, rfl⟩ IH
  rw [f_X3_clears_180.eq_2]
  by_cases d : i < S.rck.1
  · have er := h.rck.2 i d
    have gr := g.rck.2 i d
    have z : bitsI (fun _ => false) S.rck.1 = i32 ((0 : Nat) : Int) := by
      refine i32_ext (fun j hj => ?_)
      rw [bitsI_bit _ _ g16 j hj, Bool.and_false, bit_0]
    have none' : (decide (S.rck.2.1 i = S.now.now + t) && othB p (S.rck.2.2 i).toNat) = false → ok (f_X3_clears_180 161 v1 v2 (i32 t) σ (bitsI p 9) K n (bitsI (fun r => q r || (decide (r < i) && (decide (S.rck.2.1 r = S.now.now + t) && othB p (S.rck.2.2 r).toNat))) S.rck.1 ||| i32 ((0 : Nat) : Int)) (i32 (i + 1 : Nat))) Q := by
      intro hf
      rw [← z, bitsI_or _ _ g16]
      refine IH d _ _ ⟨rfl, bitsI_eq (fun r hr => ?_)⟩
      rw [Bool.or_false]
      by_cases e : r = i
      · subst e
        rw [hf, Bool.and_false, Bool.and_false]
      · congr 2
        rw [decide_eq_decide]; omega
    have some' : (decide (S.rck.2.1 i = S.now.now + t) && othB p (S.rck.2.2 i).toNat) = true → ok (f_X3_clears_180 161 v1 v2 (i32 t) σ (bitsI p 9) K n (bitsI (fun r => q r || (decide (r < i) && (decide (S.rck.2.1 r = S.now.now + t) && othB p (S.rck.2.2 r).toNat))) S.rck.1 ||| (i32 ((1 : Nat) : Int) <<< (i32 i &&& i32 ((31 : Nat) : Int)))) (i32 (i + 1 : Nat))) Q := by
      intro hf
      rw [bitsI_add _ g16 d]
      refine IH d _ _ ⟨rfl, bitsI_eq (fun r hr => ?_)⟩
      by_cases e : r = i
      · subst e
        rw [hf, decide_eq_true rfl, decide_eq_true (show r < r + 1 by omega), Bool.or_true, Bool.and_true, Bool.or_true]
      · rw [decide_eq_false e, Bool.or_false]
        congr 2
        rw [decide_eq_decide]; omega
    have oth := bitsI_oth p (k := (S.rck.2.2 i).toNat) (by omega)
    have ei : i32 (S.rck.2.2 i) = i32 ((S.rck.2.2 i).toNat : Nat) := by congr 1; omega
    rw [← ei] at oth
    clear IH hK
    by_cases c1 : S.rck.2.1 i = S.now.now + t
    · cases c2 : othB p (S.rck.2.2 i).toNat with
      | false =>
        have hf : (decide (S.rck.2.1 i = S.now.now + t) && othB p (S.rck.2.2 i).toNat) = false := by rw [c2, Bool.and_false]
        have nn := none' hf
        have o2 := oth.mpr (othB_f.mp c2)
        clear none' some' oth
        (try simp (disch := omega) only [vl_s, bp_s, bd_s, bv_s, i32_nl, i32_n, i32_add, i32_sub, i32_mul, i32_neg, i32_ca, i32_cm, i32_cs, i32_cn, i32_le, i32_lt, i32_eq, i32_cl, Int.toNat_natCast, if_pos, if_neg, ite_true, ite_false, not_true_eq_false, not_false_eq_true, Nat.add_zero, Nat.zero_add, Nat.add_sub_cancel, ck_p, cko_si, cka_si, cko_sl, cka_sl, gi_e, gi_x, gl_e, gl_x, gr_si, gl_si, gi_sl, gr_sl, cko_c hm.k (show 3 ∈ [3] by decide), dr_c hm.r2, dr_c hm.r9, dr_c hm.r10, dr_c hm.r11, dr_c hm.r12, dr_c hm.r13, dr_c hm.r14, dr_c hm.r15, dr_c hm.r16, dr_c hm.r21, dr_c hm.r23, dr_c hm.r24, dr_c hm.r27, dr_c hm.r28, dr_c hm.r30, dr_c hm.r33, dr_c hm.r34, dr_c hm.r36, dr_c hm.r37, dr_c hm.r38, dr_c hm.r41, dr_c hm.r43, dr_c hm.r44, dr_c hm.r45, dr_c hm.r46, dr_c hm.r47, dr_c hm.r50, dr_c hm.r51, dr_c hm.r52, cka_i hm.k162 hm.l162, cka_i hm.k163 hm.l163, cka_i hm.k164 hm.l164, cka_i hm.k165 hm.l165, cka_i hm.k166 hm.l166, cka_i hm.k167 hm.l167, cka_i hm.k168 hm.l168, cka_i hm.k169 hm.l169, cka_i hm.k170 hm.l170, cka_i hm.k171 hm.l171, cka_i hm.k172 hm.l172, cka_i hm.k173 hm.l173, cka_i hm.k174 hm.l174, cka_i hm.k175 hm.l175, cka_i hm.k176 hm.l176, cka_i hm.k177 hm.l177, cka_i hm.k178 hm.l178, cka_i hm.k179 hm.l179, cka_i hm.k180 hm.l180, cka_i hm.k181 hm.l181, cka_i hm.k182 hm.l182, cka_i hm.k183 hm.l183, cka_i hm.k184 hm.l184, cka_i hm.k185 hm.l185, cka_i hm.k186 hm.l186, cka_i hm.k187 hm.l187, cka_i hm.k188 hm.l188, cka_i hm.k189 hm.l189, cka_i hm.k190 hm.l190, e6, e0, er.1, er.2])
        first | exact nn | (rw [if_pos (show _ = _ from o2)]; exact nn)
      | true =>
        have hf : (decide (S.rck.2.1 i = S.now.now + t) && othB p (S.rck.2.2 i).toNat) = true := by rw [c2, decide_eq_true c1]; rfl
        have nn := some' hf
        have o2 : ¬ (bitsI p 9 &&& ((i32 ((1 : Nat) : Int) <<< (i32 (S.rck.2.2 i) &&& i32 ((31 : Nat) : Int))) ^^^ i32 (-((1 : Nat) : Int))) = i32 ((0 : Nat) : Int)) := fun x => by
          have := othB_f.mpr (oth.mp x)
          rw [c2] at this
          cases this
        clear none' some' oth
        (try simp (disch := omega) only [vl_s, bp_s, bd_s, bv_s, i32_nl, i32_n, i32_add, i32_sub, i32_mul, i32_neg, i32_ca, i32_cm, i32_cs, i32_cn, i32_le, i32_lt, i32_eq, i32_cl, Int.toNat_natCast, if_pos, if_neg, ite_true, ite_false, not_true_eq_false, not_false_eq_true, Nat.add_zero, Nat.zero_add, Nat.add_sub_cancel, ck_p, cko_si, cka_si, cko_sl, cka_sl, gi_e, gi_x, gl_e, gl_x, gr_si, gl_si, gi_sl, gr_sl, cko_c hm.k (show 3 ∈ [3] by decide), dr_c hm.r2, dr_c hm.r9, dr_c hm.r10, dr_c hm.r11, dr_c hm.r12, dr_c hm.r13, dr_c hm.r14, dr_c hm.r15, dr_c hm.r16, dr_c hm.r21, dr_c hm.r23, dr_c hm.r24, dr_c hm.r27, dr_c hm.r28, dr_c hm.r30, dr_c hm.r33, dr_c hm.r34, dr_c hm.r36, dr_c hm.r37, dr_c hm.r38, dr_c hm.r41, dr_c hm.r43, dr_c hm.r44, dr_c hm.r45, dr_c hm.r46, dr_c hm.r47, dr_c hm.r50, dr_c hm.r51, dr_c hm.r52, cka_i hm.k162 hm.l162, cka_i hm.k163 hm.l163, cka_i hm.k164 hm.l164, cka_i hm.k165 hm.l165, cka_i hm.k166 hm.l166, cka_i hm.k167 hm.l167, cka_i hm.k168 hm.l168, cka_i hm.k169 hm.l169, cka_i hm.k170 hm.l170, cka_i hm.k171 hm.l171, cka_i hm.k172 hm.l172, cka_i hm.k173 hm.l173, cka_i hm.k174 hm.l174, cka_i hm.k175 hm.l175, cka_i hm.k176 hm.l176, cka_i hm.k177 hm.l177, cka_i hm.k178 hm.l178, cka_i hm.k179 hm.l179, cka_i hm.k180 hm.l180, cka_i hm.k181 hm.l181, cka_i hm.k182 hm.l182, cka_i hm.k183 hm.l183, cka_i hm.k184 hm.l184, cka_i hm.k185 hm.l185, cka_i hm.k186 hm.l186, cka_i hm.k187 hm.l187, cka_i hm.k188 hm.l188, cka_i hm.k189 hm.l189, cka_i hm.k190 hm.l190, e6, e0, er.1, er.2])
        first | exact nn | (rw [if_neg o2]; exact nn)
    · have hf : (decide (S.rck.2.1 i = S.now.now + t) && othB p (S.rck.2.2 i).toNat) = false := by
        rw [decide_eq_false c1, Bool.false_and]
      have nn := none' hf
      clear none' some'
      (try simp (disch := omega) only [vl_s, bp_s, bd_s, bv_s, i32_nl, i32_n, i32_add, i32_sub, i32_mul, i32_neg, i32_ca, i32_cm, i32_cs, i32_cn, i32_le, i32_lt, i32_eq, i32_cl, Int.toNat_natCast, if_pos, if_neg, ite_true, ite_false, not_true_eq_false, not_false_eq_true, Nat.add_zero, Nat.zero_add, Nat.add_sub_cancel, ck_p, cko_si, cka_si, cko_sl, cka_sl, gi_e, gi_x, gl_e, gl_x, gr_si, gl_si, gi_sl, gr_sl, cko_c hm.k (show 3 ∈ [3] by decide), dr_c hm.r2, dr_c hm.r9, dr_c hm.r10, dr_c hm.r11, dr_c hm.r12, dr_c hm.r13, dr_c hm.r14, dr_c hm.r15, dr_c hm.r16, dr_c hm.r21, dr_c hm.r23, dr_c hm.r24, dr_c hm.r27, dr_c hm.r28, dr_c hm.r30, dr_c hm.r33, dr_c hm.r34, dr_c hm.r36, dr_c hm.r37, dr_c hm.r38, dr_c hm.r41, dr_c hm.r43, dr_c hm.r44, dr_c hm.r45, dr_c hm.r46, dr_c hm.r47, dr_c hm.r50, dr_c hm.r51, dr_c hm.r52, cka_i hm.k162 hm.l162, cka_i hm.k163 hm.l163, cka_i hm.k164 hm.l164, cka_i hm.k165 hm.l165, cka_i hm.k166 hm.l166, cka_i hm.k167 hm.l167, cka_i hm.k168 hm.l168, cka_i hm.k169 hm.l169, cka_i hm.k170 hm.l170, cka_i hm.k171 hm.l171, cka_i hm.k172 hm.l172, cka_i hm.k173 hm.l173, cka_i hm.k174 hm.l174, cka_i hm.k175 hm.l175, cka_i hm.k176 hm.l176, cka_i hm.k177 hm.l177, cka_i hm.k178 hm.l178, cka_i hm.k179 hm.l179, cka_i hm.k180 hm.l180, cka_i hm.k181 hm.l181, cka_i hm.k182 hm.l182, cka_i hm.k183 hm.l183, cka_i hm.k184 hm.l184, cka_i hm.k185 hm.l185, cka_i hm.k186 hm.l186, cka_i hm.k187 hm.l187, cka_i hm.k188 hm.l188, cka_i hm.k189 hm.l189, cka_i hm.k190 hm.l190, e6, e0, er.1])
      exact nn
  · have : i = S.rck.1 := by omega
    subst this
    (try simp (disch := omega) only [vl_s, bp_s, bd_s, bv_s, i32_nl, i32_n, i32_add, i32_sub, i32_mul, i32_neg, i32_ca, i32_cm, i32_cs, i32_cn, i32_le, i32_lt, i32_eq, i32_cl, Int.toNat_natCast, if_pos, if_neg, ite_true, ite_false, not_true_eq_false, not_false_eq_true, Nat.add_zero, Nat.zero_add, Nat.add_sub_cancel, ck_p, cko_si, cka_si, cko_sl, cka_sl, gi_e, gi_x, gl_e, gl_x, gr_si, gl_si, gi_sl, gr_sl, cko_c hm.k (show 3 ∈ [3] by decide), dr_c hm.r2, dr_c hm.r9, dr_c hm.r10, dr_c hm.r11, dr_c hm.r12, dr_c hm.r13, dr_c hm.r14, dr_c hm.r15, dr_c hm.r16, dr_c hm.r21, dr_c hm.r23, dr_c hm.r24, dr_c hm.r27, dr_c hm.r28, dr_c hm.r30, dr_c hm.r33, dr_c hm.r34, dr_c hm.r36, dr_c hm.r37, dr_c hm.r38, dr_c hm.r41, dr_c hm.r43, dr_c hm.r44, dr_c hm.r45, dr_c hm.r46, dr_c hm.r47, dr_c hm.r50, dr_c hm.r51, dr_c hm.r52, cka_i hm.k162 hm.l162, cka_i hm.k163 hm.l163, cka_i hm.k164 hm.l164, cka_i hm.k165 hm.l165, cka_i hm.k166 hm.l166, cka_i hm.k167 hm.l167, cka_i hm.k168 hm.l168, cka_i hm.k169 hm.l169, cka_i hm.k170 hm.l170, cka_i hm.k171 hm.l171, cka_i hm.k172 hm.l172, cka_i hm.k173 hm.l173, cka_i hm.k174 hm.l174, cka_i hm.k175 hm.l175, cka_i hm.k176 hm.l176, cka_i hm.k177 hm.l177, cka_i hm.k178 hm.l178, cka_i hm.k179 hm.l179, cka_i hm.k180 hm.l180, cka_i hm.k181 hm.l181, cka_i hm.k182 hm.l182, cka_i hm.k183 hm.l183, cka_i hm.k184 hm.l184, cka_i hm.k185 hm.l185, cka_i hm.k186 hm.l186, cka_i hm.k187 hm.l187, cka_i hm.k188 hm.l188, cka_i hm.k189 hm.l189, cka_i hm.k190 hm.l190, e6])
    have e : bitsI (fun r => q r || (decide (r < S.rck.1) && (decide (S.rck.2.1 r = S.now.now + t) && othB p (S.rck.2.2 r).toNat))) S.rck.1 = bitsI (fun r => q r || (decide (S.rck.2.1 r = S.now.now + t) && othB p (S.rck.2.2 r).toNat)) S.rck.1 := bitsI_eq (fun r hr => by rw [decide_eq_true hr, Bool.true_and])
    rw [e]
    exact hK
theorem M_clears {S : St} {σ : vMem} {B : Int} (h : RM S σ) (g : gSt B S) (hB : B ≤ 800000) : ok (f_X3_clears σ 161) (fun r => r.1 = aClears S ∧ RM (nClears S) r.2 ∧ FM σ r.2) := by
  have hm := h.ml
  have q0 := M_thrown h (i32 ((0 : Nat) : Int))
  have e6 := h.rck.1
  have e0 := h.now.1
  have e1 := h.now.2.1
  have g16 := g.rck.1
  have gw := g.now
  obtain ⟨⟨n1, n2, n3, n4, n5⟩, n6⟩ := gw
  generalize hQ : (fun r : Int32 × vMem => r.1 = aClears S ∧ RM (nClears S) r.2 ∧ FM σ r.2) = Q
  unfold f_X3_clears
  (try simp (disch := omega) only [vl_s, bp_s, bd_s, bv_s, i32_nl, i32_n, i32_add, i32_sub, i32_mul, i32_neg, i32_ca, i32_cm, i32_cs, i32_cn, i32_le, i32_lt, i32_eq, i32_cl, Int.toNat_natCast, if_pos, if_neg, ite_true, ite_false, not_true_eq_false, not_false_eq_true, Nat.add_zero, Nat.zero_add, Nat.add_sub_cancel, ck_p, cko_si, cka_si, cko_sl, cka_sl, gi_e, gi_x, gl_e, gl_x, gr_si, gl_si, gi_sl, gr_sl, cko_c hm.k (show 3 ∈ [3] by decide), dr_c hm.r2, dr_c hm.r9, dr_c hm.r10, dr_c hm.r11, dr_c hm.r12, dr_c hm.r13, dr_c hm.r14, dr_c hm.r15, dr_c hm.r16, dr_c hm.r21, dr_c hm.r23, dr_c hm.r24, dr_c hm.r27, dr_c hm.r28, dr_c hm.r30, dr_c hm.r33, dr_c hm.r34, dr_c hm.r36, dr_c hm.r37, dr_c hm.r38, dr_c hm.r41, dr_c hm.r43, dr_c hm.r44, dr_c hm.r45, dr_c hm.r46, dr_c hm.r47, dr_c hm.r50, dr_c hm.r51, dr_c hm.r52, cka_i hm.k162 hm.l162, cka_i hm.k163 hm.l163, cka_i hm.k164 hm.l164, cka_i hm.k165 hm.l165, cka_i hm.k166 hm.l166, cka_i hm.k167 hm.l167, cka_i hm.k168 hm.l168, cka_i hm.k169 hm.l169, cka_i hm.k170 hm.l170, cka_i hm.k171 hm.l171, cka_i hm.k172 hm.l172, cka_i hm.k173 hm.l173, cka_i hm.k174 hm.l174, cka_i hm.k175 hm.l175, cka_i hm.k176 hm.l176, cka_i hm.k177 hm.l177, cka_i hm.k178 hm.l178, cka_i hm.k179 hm.l179, cka_i hm.k180 hm.l180, cka_i hm.k181 hm.l181, cka_i hm.k182 hm.l182, cka_i hm.k183 hm.l183, cka_i hm.k184 hm.l184, cka_i hm.k185 hm.l185, cka_i hm.k186 hm.l186, cka_i hm.k187 hm.l187, cka_i hm.k188 hm.l188, cka_i hm.k189 hm.l189, cka_i hm.k190 hm.l190, e1])
  refine loop3 (F := f_X3_clears_11 161 (si σ 161 0 (i32 ((0 : Nat) : Int))) _) S.rck.1 (fun r a b x => x = i32 r ∧ a = i32 (farF S r) ∧ b = bitsI (ahB S) r) ?_ FU 0 _ _ _ (by omega) ⟨rfl, rfl, rfl⟩ (by unfold FU; omega)
  rintro n r a b x hr ⟨rfl, rfl, rfl⟩ IH
  have fb := farF_b g r hr
  rw [f_X3_clears_11.eq_2]
  by_cases d : r < S.rck.1
  · have er := (h.rck.2 r d).1
    have gr := g.rck.2 r d
    have ef : farF S (r + 1) = if S.now.now < S.rck.2.1 r then max (farF S r) (S.rck.2.1 r - S.now.now) else farF S r := rfl
    have eb : bitsI (ahB S) (r + 1) = bitsI (ahB S) r ||| (if ahB S r then i32 ((1 : Nat) : Int) <<< (i32 r &&& i32 ((31 : Nat) : Int)) else i32 ((0 : Nat) : Int)) := rfl
    by_cases c : S.now.now < S.rck.2.1 r
    · rw [if_pos c] at ef
      rw [show ahB S r = true from decide_eq_true c, if_pos rfl] at eb
      (try simp (disch := omega) only [vl_s, bp_s, bd_s, bv_s, i32_nl, i32_n, i32_add, i32_sub, i32_mul, i32_neg, i32_ca, i32_cm, i32_cs, i32_cn, i32_le, i32_lt, i32_eq, i32_cl, Int.toNat_natCast, if_pos, if_neg, ite_true, ite_false, not_true_eq_false, not_false_eq_true, Nat.add_zero, Nat.zero_add, Nat.add_sub_cancel, ck_p, cko_si, cka_si, cko_sl, cka_sl, gi_e, gi_x, gl_e, gl_x, gr_si, gl_si, gi_sl, gr_sl, cko_c hm.k (show 3 ∈ [3] by decide), dr_c hm.r2, dr_c hm.r9, dr_c hm.r10, dr_c hm.r11, dr_c hm.r12, dr_c hm.r13, dr_c hm.r14, dr_c hm.r15, dr_c hm.r16, dr_c hm.r21, dr_c hm.r23, dr_c hm.r24, dr_c hm.r27, dr_c hm.r28, dr_c hm.r30, dr_c hm.r33, dr_c hm.r34, dr_c hm.r36, dr_c hm.r37, dr_c hm.r38, dr_c hm.r41, dr_c hm.r43, dr_c hm.r44, dr_c hm.r45, dr_c hm.r46, dr_c hm.r47, dr_c hm.r50, dr_c hm.r51, dr_c hm.r52, cka_i hm.k162 hm.l162, cka_i hm.k163 hm.l163, cka_i hm.k164 hm.l164, cka_i hm.k165 hm.l165, cka_i hm.k166 hm.l166, cka_i hm.k167 hm.l167, cka_i hm.k168 hm.l168, cka_i hm.k169 hm.l169, cka_i hm.k170 hm.l170, cka_i hm.k171 hm.l171, cka_i hm.k172 hm.l172, cka_i hm.k173 hm.l173, cka_i hm.k174 hm.l174, cka_i hm.k175 hm.l175, cka_i hm.k176 hm.l176, cka_i hm.k177 hm.l177, cka_i hm.k178 hm.l178, cka_i hm.k179 hm.l179, cka_i hm.k180 hm.l180, cka_i hm.k181 hm.l181, cka_i hm.k182 hm.l182, cka_i hm.k183 hm.l183, cka_i hm.k184 hm.l184, cka_i hm.k185 hm.l185, cka_i hm.k186 hm.l186, cka_i hm.k187 hm.l187, cka_i hm.k188 hm.l188, cka_i hm.k189 hm.l189, cka_i hm.k190 hm.l190, e6, e0, er, imax_i])
      exact IH d _ _ _ ⟨rfl, by rw [ef], by rw [eb]⟩
    · rw [if_neg c] at ef
      rw [show ahB S r = false from decide_eq_false c, if_neg (by decide)] at eb
      (try simp (disch := omega) only [vl_s, bp_s, bd_s, bv_s, i32_nl, i32_n, i32_add, i32_sub, i32_mul, i32_neg, i32_ca, i32_cm, i32_cs, i32_cn, i32_le, i32_lt, i32_eq, i32_cl, Int.toNat_natCast, if_pos, if_neg, ite_true, ite_false, not_true_eq_false, not_false_eq_true, Nat.add_zero, Nat.zero_add, Nat.add_sub_cancel, ck_p, cko_si, cka_si, cko_sl, cka_sl, gi_e, gi_x, gl_e, gl_x, gr_si, gl_si, gi_sl, gr_sl, cko_c hm.k (show 3 ∈ [3] by decide), dr_c hm.r2, dr_c hm.r9, dr_c hm.r10, dr_c hm.r11, dr_c hm.r12, dr_c hm.r13, dr_c hm.r14, dr_c hm.r15, dr_c hm.r16, dr_c hm.r21, dr_c hm.r23, dr_c hm.r24, dr_c hm.r27, dr_c hm.r28, dr_c hm.r30, dr_c hm.r33, dr_c hm.r34, dr_c hm.r36, dr_c hm.r37, dr_c hm.r38, dr_c hm.r41, dr_c hm.r43, dr_c hm.r44, dr_c hm.r45, dr_c hm.r46, dr_c hm.r47, dr_c hm.r50, dr_c hm.r51, dr_c hm.r52, cka_i hm.k162 hm.l162, cka_i hm.k163 hm.l163, cka_i hm.k164 hm.l164, cka_i hm.k165 hm.l165, cka_i hm.k166 hm.l166, cka_i hm.k167 hm.l167, cka_i hm.k168 hm.l168, cka_i hm.k169 hm.l169, cka_i hm.k170 hm.l170, cka_i hm.k171 hm.l171, cka_i hm.k172 hm.l172, cka_i hm.k173 hm.l173, cka_i hm.k174 hm.l174, cka_i hm.k175 hm.l175, cka_i hm.k176 hm.l176, cka_i hm.k177 hm.l177, cka_i hm.k178 hm.l178, cka_i hm.k179 hm.l179, cka_i hm.k180 hm.l180, cka_i hm.k181 hm.l181, cka_i hm.k182 hm.l182, cka_i hm.k183 hm.l183, cka_i hm.k184 hm.l184, cka_i hm.k185 hm.l185, cka_i hm.k186 hm.l186, cka_i hm.k187 hm.l187, cka_i hm.k188 hm.l188, cka_i hm.k189 hm.l189, cka_i hm.k190 hm.l190, e6, e0, er, imax_i])
      exact IH d _ _ _ ⟨rfl, by rw [ef], by rw [eb]⟩
  · have : r = S.rck.1 := by omega
    subst this
    clear IH
    obtain ⟨F, hF⟩ : ∃ F : Nat, farF S S.rck.1 = F := ⟨(farF S S.rck.1).toNat, by omega⟩
    have hFN : (farF S S.rck.1).toNat = F := by rw [hF]; rfl
    rw [hF] at fb
    have l0 : i32 ((1 : Nat) : Int) <<< (i32 S.now.lane &&& i32 ((31 : Nat) : Int)) = bitsI (lnsP S 0) 9 := by
      refine i32_ext (fun i hi => ?_)
      have el : i32 S.now.lane = i32 (S.now.lane.toNat : Nat) := by congr 1; omega
      rw [el, bit_1 S.now.lane.toNat (by omega) i hi, bitsI_bit _ 9 (by decide) i hi]
      show decide (i = S.now.lane.toNat) = (decide (i < 9) && decide ((i : Int) = S.now.lane))
      by_cases e : i = S.now.lane.toNat
      · rw [decide_eq_true e, decide_eq_true (show i < 9 by omega), decide_eq_true (show (i : Int) = S.now.lane by omega)]; rfl
      · rw [decide_eq_false e, decide_eq_false (show ¬ (i : Int) = S.now.lane by omega), Bool.and_false]
    have z : bitsI (canR S 0) S.rck.1 = i32 ((0 : Nat) : Int) := by
      refine i32_ext (fun j hj => ?_)
      rw [bitsI_bit _ _ g16 j hj, bit_0]
      exact Bool.and_false _
    rw [hF]
    (try simp (disch := omega) only [vl_s, bp_s, bd_s, bv_s, i32_nl, i32_n, i32_add, i32_sub, i32_mul, i32_neg, i32_ca, i32_cm, i32_cs, i32_cn, i32_le, i32_lt, i32_eq, i32_cl, Int.toNat_natCast, if_pos, if_neg, ite_true, ite_false, not_true_eq_false, not_false_eq_true, Nat.add_zero, Nat.zero_add, Nat.add_sub_cancel, ck_p, cko_si, cka_si, cko_sl, cka_sl, gi_e, gi_x, gl_e, gl_x, gr_si, gl_si, gi_sl, gr_sl, cko_c hm.k (show 3 ∈ [3] by decide), dr_c hm.r2, dr_c hm.r9, dr_c hm.r10, dr_c hm.r11, dr_c hm.r12, dr_c hm.r13, dr_c hm.r14, dr_c hm.r15, dr_c hm.r16, dr_c hm.r21, dr_c hm.r23, dr_c hm.r24, dr_c hm.r27, dr_c hm.r28, dr_c hm.r30, dr_c hm.r33, dr_c hm.r34, dr_c hm.r36, dr_c hm.r37, dr_c hm.r38, dr_c hm.r41, dr_c hm.r43, dr_c hm.r44, dr_c hm.r45, dr_c hm.r46, dr_c hm.r47, dr_c hm.r50, dr_c hm.r51, dr_c hm.r52, cka_i hm.k162 hm.l162, cka_i hm.k163 hm.l163, cka_i hm.k164 hm.l164, cka_i hm.k165 hm.l165, cka_i hm.k166 hm.l166, cka_i hm.k167 hm.l167, cka_i hm.k168 hm.l168, cka_i hm.k169 hm.l169, cka_i hm.k170 hm.l170, cka_i hm.k171 hm.l171, cka_i hm.k172 hm.l172, cka_i hm.k173 hm.l173, cka_i hm.k174 hm.l174, cka_i hm.k175 hm.l175, cka_i hm.k176 hm.l176, cka_i hm.k177 hm.l177, cka_i hm.k178 hm.l178, cka_i hm.k179 hm.l179, cka_i hm.k180 hm.l180, cka_i hm.k181 hm.l181, cka_i hm.k182 hm.l182, cka_i hm.k183 hm.l183, cka_i hm.k184 hm.l184, cka_i hm.k185 hm.l185, cka_i hm.k186 hm.l186, cka_i hm.k187 hm.l187, cka_i hm.k188 hm.l188, cka_i hm.k189 hm.l189, cka_i hm.k190 hm.l190, e6, e1])
    refine loop4 (F := f_X3_clears_104 161 (i32 F) (bitsI (ahB S) S.rck.1) _) F (fun t σ1 a b x => x = i32 (t + 1 : Nat) ∧ RM S σ1 ∧ FM σ σ1 ∧ a = bitsI (canR S t) S.rck.1 ∧ b = bitsI (lnsP S t) 9) ?_ FU 0 _ _ _ _ (by omega) ⟨rfl, q0, FM_thrown, z.symm, l0⟩ (by unfold FU; omega)
    rintro n t σ1 a b x ht ⟨rfl, q1, F1, rfl, rfl⟩ IH
    have hm1 := q1.ml
    rw [f_X3_clears_104.eq_2]
    by_cases c : t < F
    · have md := M_moveDue (t := t + 1) (p := lnsP S t) q1 g (by omega) (by omega)
      have e12 : imax (0 : Int32) (i32 (t + 1 : Nat) - 12) = i32 (t + 1 - 12 : Nat) := by
        rw [show (0 : Int32) = i32 0 from rfl, show (12 : Int32) = i32 12 from rfl, i32_sub, imax_i (by omega) (by omega) (by omega) (by omega)]
        congr 1; omega
      rw [e12]
      (try simp (disch := omega) only [vl_s, bp_s, bd_s, bv_s, i32_nl, i32_n, i32_add, i32_sub, i32_mul, i32_neg, i32_ca, i32_cm, i32_cs, i32_cn, i32_le, i32_lt, i32_eq, i32_cl, Int.toNat_natCast, if_pos, if_neg, ite_true, ite_false, not_true_eq_false, not_false_eq_true, Nat.add_zero, Nat.zero_add, Nat.add_sub_cancel, ck_p, cko_si, cka_si, cko_sl, cka_sl, gi_e, gi_x, gl_e, gl_x, gr_si, gl_si, gi_sl, gr_sl, cko_c hm1.k (show 3 ∈ [3] by decide), dr_c hm1.r2, dr_c hm1.r9, dr_c hm1.r10, dr_c hm1.r11, dr_c hm1.r12, dr_c hm1.r13, dr_c hm1.r14, dr_c hm1.r15, dr_c hm1.r16, dr_c hm1.r21, dr_c hm1.r23, dr_c hm1.r24, dr_c hm1.r27, dr_c hm1.r28, dr_c hm1.r30, dr_c hm1.r33, dr_c hm1.r34, dr_c hm1.r36, dr_c hm1.r37, dr_c hm1.r38, dr_c hm1.r41, dr_c hm1.r43, dr_c hm1.r44, dr_c hm1.r45, dr_c hm1.r46, dr_c hm1.r47, dr_c hm1.r50, dr_c hm1.r51, dr_c hm1.r52, cka_i hm1.k162 hm1.l162, cka_i hm1.k163 hm1.l163, cka_i hm1.k164 hm1.l164, cka_i hm1.k165 hm1.l165, cka_i hm1.k166 hm1.l166, cka_i hm1.k167 hm1.l167, cka_i hm1.k168 hm1.l168, cka_i hm1.k169 hm1.l169, cka_i hm1.k170 hm1.l170, cka_i hm1.k171 hm1.l171, cka_i hm1.k172 hm1.l172, cka_i hm1.k173 hm1.l173, cka_i hm1.k174 hm1.l174, cka_i hm1.k175 hm1.l175, cka_i hm1.k176 hm1.l176, cka_i hm1.k177 hm1.l177, cka_i hm1.k178 hm1.l178, cka_i hm1.k179 hm1.l179, cka_i hm1.k180 hm1.l180, cka_i hm1.k181 hm1.l181, cka_i hm1.k182 hm1.l182, cka_i hm1.k183 hm1.l183, cka_i hm1.k184 hm1.l184, cka_i hm1.k185 hm1.l185, cka_i hm1.k186 hm1.l186, cka_i hm1.k187 hm1.l187, cka_i hm1.k188 hm1.l188, cka_i hm1.k189 hm1.l189, cka_i hm1.k190 hm1.l190, md])
      refine M_cl131 q1 g (by omega) (by omega) (fun σ2 q2 F2 => ?_)
      have el : lnsP S (t + 1) = comP S (t + 1) (t + 1 - 12) (dueP S (t + 1) (lnsP S t) S.now.ways.length) (t + 1 - (t + 1 - 12)) := rfl
      rw [← el]
      refine M_cl180 q2 g (by omega) (by omega) ?_
      exact IH c _ _ _ _ ⟨rfl, q2, F1.tr0 (F2.rsm (by decide)), rfl, rfl⟩
    · have : t = F := by omega
      subst this
      (try simp (disch := omega) only [vl_s, bp_s, bd_s, bv_s, i32_nl, i32_n, i32_add, i32_sub, i32_mul, i32_neg, i32_ca, i32_cm, i32_cs, i32_cn, i32_le, i32_lt, i32_eq, i32_cl, Int.toNat_natCast, if_pos, if_neg, ite_true, ite_false, not_true_eq_false, not_false_eq_true, Nat.add_zero, Nat.zero_add, Nat.add_sub_cancel, ck_p, cko_si, cka_si, cko_sl, cka_sl, gi_e, gi_x, gl_e, gl_x, gr_si, gl_si, gi_sl, gr_sl, cko_c hm1.k (show 3 ∈ [3] by decide), dr_c hm1.r2, dr_c hm1.r9, dr_c hm1.r10, dr_c hm1.r11, dr_c hm1.r12, dr_c hm1.r13, dr_c hm1.r14, dr_c hm1.r15, dr_c hm1.r16, dr_c hm1.r21, dr_c hm1.r23, dr_c hm1.r24, dr_c hm1.r27, dr_c hm1.r28, dr_c hm1.r30, dr_c hm1.r33, dr_c hm1.r34, dr_c hm1.r36, dr_c hm1.r37, dr_c hm1.r38, dr_c hm1.r41, dr_c hm1.r43, dr_c hm1.r44, dr_c hm1.r45, dr_c hm1.r46, dr_c hm1.r47, dr_c hm1.r50, dr_c hm1.r51, dr_c hm1.r52, cka_i hm1.k162 hm1.l162, cka_i hm1.k163 hm1.l163, cka_i hm1.k164 hm1.l164, cka_i hm1.k165 hm1.l165, cka_i hm1.k166 hm1.l166, cka_i hm1.k167 hm1.l167, cka_i hm1.k168 hm1.l168, cka_i hm1.k169 hm1.l169, cka_i hm1.k170 hm1.l170, cka_i hm1.k171 hm1.l171, cka_i hm1.k172 hm1.l172, cka_i hm1.k173 hm1.l173, cka_i hm1.k174 hm1.l174, cka_i hm1.k175 hm1.l175, cka_i hm1.k176 hm1.l176, cka_i hm1.k177 hm1.l177, cka_i hm1.k178 hm1.l178, cka_i hm1.k179 hm1.l179, cka_i hm1.k180 hm1.l180, cka_i hm1.k181 hm1.l181, cka_i hm1.k182 hm1.l182, cka_i hm1.k183 hm1.l183, cka_i hm1.k184 hm1.l184, cka_i hm1.k185 hm1.l185, cka_i hm1.k186 hm1.l186, cka_i hm1.k187 hm1.l187, cka_i hm1.k188 hm1.l188, cka_i hm1.k189 hm1.l189, cka_i hm1.k190 hm1.l190])
      refine ok_bv (M_enters (M_row0 q1) (by show 0 < 40; omega) _) ?_
      rintro σ4 ⟨q4, F4⟩
      (try simp (disch := omega) only [vl_s, bp_s, bd_s, bv_s, i32_nl, i32_n, i32_add, i32_sub, i32_mul, i32_neg, i32_ca, i32_cm, i32_cs, i32_cn, i32_le, i32_lt, i32_eq, i32_cl, Int.toNat_natCast, if_pos, if_neg, ite_true, ite_false, not_true_eq_false, not_false_eq_true, Nat.add_zero, Nat.zero_add, Nat.add_sub_cancel, ck_p, cko_si, cka_si, cko_sl, cka_sl, gi_e, gi_x, gl_e, gl_x, gr_si, gl_si, gi_sl, gr_sl])
      rw [← hQ]
      unfold aClears nClears
      rw [hFN, ← bitsI_less _ _ g16]
      exact ok_some ⟨rfl, q4, (F1.tr0 (F_row0.rsm (by decide))).tr0 (F4.rsm (by decide))⟩
