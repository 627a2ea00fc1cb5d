/-! THE MODEL: how late an order of a step comes -/
set_option maxRecDepth 100000
def envS (S : St) (s : Int) (i : Nat) : Int32 := if i = 0 then i32 S.shp.1 else if i = 1 then i32 S.shp.2.1 else if i = 2 then i32 (liars S.shp S.shp.2.1) else i32 (s - s / 12 * 12)
def ruleV (S : St) (s : Int) : Int32 := if S.rul.1 = [] then i32 (S.shp.1 / 8 + 1) else match run (envS S s) S.rul.1 [] with
  | some (v :: _) => v
  | _ => 0
def dly (S : St) (s : Int) : Int := max 1 (min 12 (ruleV S s).toInt)
theorem dly_b (S : St) (s : Int) : 1 ≤ dly S s ∧ dly S s ≤ 12 := by unfold dly; omega
theorem clamp_v (v : Int32) : imax (i32 ((1 : Nat) : Int)) (imin (i32 ((12 : Nat) : Int)) v) = i32 (max 1 (min 12 v.toInt)) := by
  have h1 := v.le_toInt
  have h2 := v.toInt_lt
  have e : imin (i32 ((12 : Nat) : Int)) (i32 v.toInt) = i32 (min 12 v.toInt) := imin_i (by omega) (by omega) (by omega) (by omega)
  rw [i32_self] at e
  rw [e]
  exact imax_i (by omega) (by omega) (by omega) (by omega)
theorem run_app (env : Nat → Int32) : ∀ (a b : List Int) (st : List Int32), run env (a ++ b) st = (run env a st).bind (run env b)
  | [], _, _ => rfl
  | c :: a, b, st => by
    show (stp env c st).bind (run env (a ++ b)) = ((stp env c st).bind (run env a)).bind (run env b)
    cases stp env c st with
    | none => rfl
    | some st' => exact run_app env a b st'
theorem stp_len {env : Nat → Int32} {c : Int} {st st' : List Int32} (h : stp env c st = some st') : st'.length ≤ st.length + 1 := by
  unfold stp at h
  repeat' split at h
  all_goals first | (cases h; done) | skip
  all_goals (simp only [Option.some.injEq] at h; subst h; simp)
  all_goals omega
theorem run_len {env : Nat → Int32} : ∀ {cs : List Int} {st st' : List Int32}, run env cs st = some st' → st'.length ≤ st.length + cs.length
  | [], st, st', h => by cases h; simp
  | c :: cs, st, st', h => by
    have h : (stp env c st).bind (run env cs) = some st' := h
    cases hs : stp env c st with
    | none => rw [hs] at h; cases h
    | some s1 =>
      rw [hs] at h
      have h1 := stp_len hs
      have h2 := run_len (cs := cs) (st := s1) h
      rw [List.length_cons]
      omega
theorem X3_worked {σ : vMem} {c : Int} {a b : Int32} (h1 : 0 ≤ c) (h2 : c < 7) : f_X3_worked σ (i32 c) a b = some (wrk c a b) := by
  have h : c = 0 ∨ c = 1 ∨ c = 2 ∨ c = 3 ∨ c = 4 ∨ c = 5 ∨ c = 6 := by omega
  unfold f_X3_worked wrk
  simp only [vl_s]
  have lt : ∀ a b : Int32, ¬ b ≤ a ↔ a < b := fun a b => Int32.not_le
  rcases h with rfl | rfl | rfl | rfl | rfl | rfl | rfl
  · rw [if_pos (show i32 0 = 0 from rfl)]
    simp only [ite_true]
    by_cases q : a < b
    · rw [if_neg ((lt a b).mpr q), if_pos q]; rfl
    · rw [if_pos (Classical.not_not.mp (fun p => q ((lt a b).mp p))), if_neg q]; rfl
  · simp only [show ¬ i32 1 = 0 by decide, show ¬ (1 : Int) = 0 by decide, ite_true, ite_false]
    rw [if_pos (show i32 1 = 1 from rfl)]
    by_cases q : b < a
    · rw [if_neg ((lt b a).mpr q), if_pos q]; rfl
    · rw [if_pos (Classical.not_not.mp (fun p => q ((lt b a).mp p))), if_neg q]; rfl
  · simp only [show ¬ i32 2 = 0 by decide, show ¬ i32 2 = 1 by decide, show ¬ (2 : Int) = 0 by decide, show ¬ (2 : Int) = 1 by decide, ite_true, ite_false]
    rw [if_pos (show i32 2 = 2 from rfl)]
    by_cases q : a = b
    · simp only [q, not_true_eq_false, ite_true, ite_false]; rfl
    · simp only [q, not_false_eq_true, ite_true, ite_false]; rfl
  · simp only [show ¬ i32 3 = 0 by decide, show ¬ i32 3 = 1 by decide, show ¬ i32 3 = 2 by decide, show ¬ (3 : Int) = 0 by decide, show ¬ (3 : Int) = 1 by decide, show ¬ (3 : Int) = 2 by decide, ite_true, ite_false]
    exact if_pos (show i32 3 = 3 from rfl)
  · simp only [show ¬ i32 4 = 0 by decide, show ¬ i32 4 = 1 by decide, show ¬ i32 4 = 2 by decide, show ¬ i32 4 = 3 by decide, show ¬ (4 : Int) = 0 by decide, show ¬ (4 : Int) = 1 by decide, show ¬ (4 : Int) = 2 by decide, show ¬ (4 : Int) = 3 by decide, ite_true, ite_false]
    exact if_pos (show i32 4 = 4 from rfl)
  · simp only [show ¬ i32 5 = 0 by decide, show ¬ i32 5 = 1 by decide, show ¬ i32 5 = 2 by decide, show ¬ i32 5 = 3 by decide, show ¬ i32 5 = 4 by decide, show ¬ (5 : Int) = 0 by decide, show ¬ (5 : Int) = 1 by decide, show ¬ (5 : Int) = 2 by decide, show ¬ (5 : Int) = 3 by decide, show ¬ (5 : Int) = 4 by decide, ite_true, ite_false]
    exact if_pos (show i32 5 = 5 from rfl)
  · simp only [show ¬ i32 6 = 0 by decide, show ¬ i32 6 = 1 by decide, show ¬ i32 6 = 2 by decide, show ¬ i32 6 = 3 by decide, show ¬ i32 6 = 4 by decide, show ¬ i32 6 = 5 by decide, show ¬ (6 : Int) = 0 by decide, show ¬ (6 : Int) = 1 by decide, show ¬ (6 : Int) = 2 by decide, show ¬ (6 : Int) = 3 by decide, show ¬ (6 : Int) = 4 by decide, show ¬ (6 : Int) = 5 by decide, ite_true, ite_false]
    by_cases q : b = 0
    · simp only [q, not_true_eq_false, ite_true, ite_false]
    · unfold ck
      simp only [q, not_false_eq_true, ite_true, ite_false]
def K174 (b _j : Nat) : Prop := b ≠ 174
theorem K174_M (b j : Nat) (h : KM [0] b j) : K174 b j := fun e => h (by subst e; rw [show reg 174 j = 0 from rfl]; decide)
def StkAt (σ : vMem) (st : List Int32) : Prop := ∀ j v, st.reverse[j]? = some v → gi σ 174 j = v
theorem StkAt.top {σ : vMem} {a : Int32} {r : List Int32} (h : StkAt σ (a :: r)) : gi σ 174 r.length = a := h _ _ (by rw [List.reverse_cons, List.getElem?_append_right (by simp)]; simp)
theorem StkAt.tl {σ : vMem} {a : Int32} {r : List Int32} (h : StkAt σ (a :: r)) : StkAt σ r := fun j v hj => h j v (by
  have h1 : j < r.reverse.length := (List.getElem?_eq_some_iff.mp hj).1
  rw [List.reverse_cons, List.getElem?_append_left h1]; exact hj)
theorem StkAt.push {σ : vMem} {r : List Int32} (h : StkAt σ r) (v : Int32) : StkAt (si σ 174 r.length v) (v :: r) := by
  intro j w hj
  rw [List.reverse_cons] at hj
  rcases snoc_get hj with h1 | ⟨h1, rfl⟩
  · have h2 : j < r.reverse.length := (List.getElem?_eq_some_iff.mp h1).1
    rw [List.length_reverse] at h2
    rw [gi_x (by omega)]
    exact h j w h1
  · rw [List.length_reverse] at h1
    rw [gi_e ⟨rfl, h1⟩]
theorem M_ruled {S : St} {σ : vMem} {s : Int} (h : RM S σ) (g : gRul S.rul) (gs : gShp S.shp) (ha : ∀ i, i < 4 → gi σ 175 i = envS S s i) : ok (f_X3_ruled σ 161) (fun r => r.1 = i32 (dly S s) ∧ Fr K174 0 0 σ r.2) := by
  have hm := h.ml
  have hn := h.mn
  have hr := h.rul.1
  have hc := h.rul.2
  obtain ⟨g1, g2, g3⟩ := g
  have gs1 : 2 ≤ S.shp.1 := gs.1
  have gs2 : S.shp.1 ≤ 40 := gs.2.1
  unfold f_X3_ruled
  simp only [vl_s]
  refine loop3 (F := f_X3_ruled_4 161 _) S.rul.1.length (fun k σ1 v1 v2 => v2 = i32 k ∧ ML σ1 ∧ gi σ1 161 25 = i32 S.rul.1.length ∧ Fr K174 0 0 σ σ1 ∧ ∃ st, run (envS S s) (S.rul.1.take k) [] = some st ∧ v1 = i32 st.length ∧ StkAt σ1 st) ?_ FU 0 σ 0 0 (by omega) ⟨rfl, hm, hr, Fr.rf, [], rfl, rfl, fun j v hj => by simp at hj⟩ (by unfold FU; omega)
  rintro n k σ1 v1 v2 hk2 ⟨rfl, h1, h25, F1, st, hst, rfl, hs⟩ IH
  rw [f_X3_ruled_4.eq_2]
  have sl := run_len hst
  have tl : (S.rul.1.take k).length ≤ k := List.length_take_le _ _
  simp only [List.length_nil, Nat.zero_add] at sl
  by_cases hk : k < S.rul.1.length
  · obtain ⟨c, hc0⟩ : ∃ c, S.rul.1[k]? = some c := ⟨S.rul.1[k], List.getElem?_eq_getElem hk⟩
    have gc := g2 c (List.mem_of_getElem? hc0)
    have e172 : gi σ1 172 k = i32 c := by rw [F1.i (by omega) (by show (172 : Nat) ≠ 174; decide)]; exact hc k c hc0
    have hr3 : ∀ env, ∃ v, run env S.rul.1 [] = some [v] := by
      rcases g3 with g3 | g3
      · rw [g3] at hk; simp at hk
      · exact g3
    obtain ⟨v, hv⟩ := hr3 (envS S s)
    have hstp : ∃ st', stp (envS S s) c st = some st' ∧ run (envS S s) (S.rul.1.take (k + 1)) [] = some st' := by
      have e1 : S.rul.1 = S.rul.1.take (k + 1) ++ S.rul.1.drop (k + 1) := (List.take_append_drop _ _).symm
      have e2 : run (envS S s) (S.rul.1.take (k + 1)) [] = (stp (envS S s) c st) := by
        rw [take_snoc hc0, run_app, hst]
        show (stp (envS S s) c st).bind (run (envS S s) []) = _
        cases stp (envS S s) c st <;> rfl
      rw [e1, run_app, e2] at hv
      cases hs2 : stp (envS S s) c st with
      | none => rw [hs2] at hv; cases hv
      | some st' => exact ⟨st', rfl, by rw [e2, hs2]⟩
    obtain ⟨st', hst', hrun⟩ := hstp
    unfold gCode at gc
    unfold stp at hst'
    by_cases c1 : c < 1000
    · rw [if_pos c1] at hst'
      cases hst'
      simp (disch := omega) only [vl_s, bp_s, bd_s, bv_s, i32_nl, i32_n, i32_add, i32_sub, i32_mul, i32_neg, i32_ca, i32_cm, i32_cs, i32_cn, i32_le, i32_lt, i32_eq, i32_cl, Int.toNat_natCast, if_pos, if_neg, ite_true, ite_false, not_true_eq_false, not_false_eq_true, Nat.add_zero, Nat.zero_add, Nat.add_sub_cancel, ck_p, cko_si, cka_si, cko_sl, cka_sl, gi_e, gi_x, gl_e, gl_x, gr_si, gl_si, gi_sl, gr_sl, cko_c h1.k (show 3 ∈ [3] by decide), dr_c h1.r2, dr_c h1.r9, dr_c h1.r10, dr_c h1.r11, dr_c h1.r12, dr_c h1.r13, dr_c h1.r14, dr_c h1.r15, dr_c h1.r16, dr_c h1.r21, dr_c h1.r23, dr_c h1.r24, dr_c h1.r27, dr_c h1.r28, dr_c h1.r30, dr_c h1.r33, dr_c h1.r34, dr_c h1.r36, dr_c h1.r37, dr_c h1.r38, dr_c h1.r41, dr_c h1.r43, dr_c h1.r44, dr_c h1.r45, dr_c h1.r46, dr_c h1.r47, dr_c h1.r50, dr_c h1.r51, dr_c h1.r52, cka_i h1.k162 h1.l162, cka_i h1.k163 h1.l163, cka_i h1.k164 h1.l164, cka_i h1.k165 h1.l165, cka_i h1.k166 h1.l166, cka_i h1.k167 h1.l167, cka_i h1.k168 h1.l168, cka_i h1.k169 h1.l169, cka_i h1.k170 h1.l170, cka_i h1.k171 h1.l171, cka_i h1.k172 h1.l172, cka_i h1.k173 h1.l173, cka_i h1.k174 h1.l174, cka_i h1.k175 h1.l175, cka_i h1.k176 h1.l176, cka_i h1.k177 h1.l177, cka_i h1.k178 h1.l178, cka_i h1.k179 h1.l179, cka_i h1.k180 h1.l180, cka_i h1.k181 h1.l181, cka_i h1.k182 h1.l182, cka_i h1.k183 h1.l183, cka_i h1.k184 h1.l184, cka_i h1.k185 h1.l185, cka_i h1.k186 h1.l186, cka_i h1.k187 h1.l187, cka_i h1.k188 h1.l188, cka_i h1.k189 h1.l189, cka_i h1.k190 h1.l190, h25, e172]
      exact IH hk _ _ _ ⟨rfl, h1, by rw [gi_x (by omega)]; exact h25, F1.wi (fun q => q rfl), _, hrun, rfl, hs.push _⟩
    · rw [if_neg c1] at hst'
      by_cases c2 : c < 2000
      · rw [if_pos c2] at hst'
        cases hst'
        have e175 : gi σ1 175 (c - 1000).toNat = envS S s (c - 1000).toNat := by
          rw [F1.i (by omega) (by show (175 : Nat) ≠ 174; decide)]
          exact ha _ (by omega)
        simp (disch := omega) only [vl_s, bp_s, bd_s, bv_s, i32_nl, i32_n, i32_add, i32_sub, i32_mul, i32_neg, i32_ca, i32_cm, i32_cs, i32_cn, i32_le, i32_lt, i32_eq, i32_cl, Int.toNat_natCast, if_pos, if_neg, ite_true, ite_false, not_true_eq_false, not_false_eq_true, Nat.add_zero, Nat.zero_add, Nat.add_sub_cancel, ck_p, cko_si, cka_si, cko_sl, cka_sl, gi_e, gi_x, gl_e, gl_x, gr_si, gl_si, gi_sl, gr_sl, cko_c h1.k (show 3 ∈ [3] by decide), dr_c h1.r2, dr_c h1.r9, dr_c h1.r10, dr_c h1.r11, dr_c h1.r12, dr_c h1.r13, dr_c h1.r14, dr_c h1.r15, dr_c h1.r16, dr_c h1.r21, dr_c h1.r23, dr_c h1.r24, dr_c h1.r27, dr_c h1.r28, dr_c h1.r30, dr_c h1.r33, dr_c h1.r34, dr_c h1.r36, dr_c h1.r37, dr_c h1.r38, dr_c h1.r41, dr_c h1.r43, dr_c h1.r44, dr_c h1.r45, dr_c h1.r46, dr_c h1.r47, dr_c h1.r50, dr_c h1.r51, dr_c h1.r52, cka_i h1.k162 h1.l162, cka_i h1.k163 h1.l163, cka_i h1.k164 h1.l164, cka_i h1.k165 h1.l165, cka_i h1.k166 h1.l166, cka_i h1.k167 h1.l167, cka_i h1.k168 h1.l168, cka_i h1.k169 h1.l169, cka_i h1.k170 h1.l170, cka_i h1.k171 h1.l171, cka_i h1.k172 h1.l172, cka_i h1.k173 h1.l173, cka_i h1.k174 h1.l174, cka_i h1.k175 h1.l175, cka_i h1.k176 h1.l176, cka_i h1.k177 h1.l177, cka_i h1.k178 h1.l178, cka_i h1.k179 h1.l179, cka_i h1.k180 h1.l180, cka_i h1.k181 h1.l181, cka_i h1.k182 h1.l182, cka_i h1.k183 h1.l183, cka_i h1.k184 h1.l184, cka_i h1.k185 h1.l185, cka_i h1.k186 h1.l186, cka_i h1.k187 h1.l187, cka_i h1.k188 h1.l188, cka_i h1.k189 h1.l189, cka_i h1.k190 h1.l190, h25, e172]
        rw [show (c - ((1000 : Nat) : Int)).toNat = (c - 1000).toNat from rfl, e175]
        exact IH hk _ _ _ ⟨rfl, h1, by rw [gi_x (by omega)]; exact h25, F1.wi (fun q => q rfl), _, hrun, rfl, hs.push _⟩
      · rw [if_neg c2] at hst'
        by_cases c3 : c = 3000
        · rw [if_pos c3] at hst'
          cases st with
          | nil => cases hst'
          | cons a r =>
            cases hst'
            rw [List.length_cons] at sl
            have ht := hs.top
            simp (disch := omega) only [vl_s, bp_s, bd_s, bv_s, i32_nl, i32_n, i32_add, i32_sub, i32_mul, i32_neg, i32_ca, i32_cm, i32_cs, i32_cn, i32_le, i32_lt, i32_eq, i32_cl, Int.toNat_natCast, if_pos, if_neg, ite_true, ite_false, not_true_eq_false, not_false_eq_true, Nat.add_zero, Nat.zero_add, Nat.add_sub_cancel, ck_p, cko_si, cka_si, cko_sl, cka_sl, gi_e, gi_x, gl_e, gl_x, gr_si, gl_si, gi_sl, gr_sl, cko_c h1.k (show 3 ∈ [3] by decide), dr_c h1.r2, dr_c h1.r9, dr_c h1.r10, dr_c h1.r11, dr_c h1.r12, dr_c h1.r13, dr_c h1.r14, dr_c h1.r15, dr_c h1.r16, dr_c h1.r21, dr_c h1.r23, dr_c h1.r24, dr_c h1.r27, dr_c h1.r28, dr_c h1.r30, dr_c h1.r33, dr_c h1.r34, dr_c h1.r36, dr_c h1.r37, dr_c h1.r38, dr_c h1.r41, dr_c h1.r43, dr_c h1.r44, dr_c h1.r45, dr_c h1.r46, dr_c h1.r47, dr_c h1.r50, dr_c h1.r51, dr_c h1.r52, cka_i h1.k162 h1.l162, cka_i h1.k163 h1.l163, cka_i h1.k164 h1.l164, cka_i h1.k165 h1.l165, cka_i h1.k166 h1.l166, cka_i h1.k167 h1.l167, cka_i h1.k168 h1.l168, cka_i h1.k169 h1.l169, cka_i h1.k170 h1.l170, cka_i h1.k171 h1.l171, cka_i h1.k172 h1.l172, cka_i h1.k173 h1.l173, cka_i h1.k174 h1.l174, cka_i h1.k175 h1.l175, cka_i h1.k176 h1.l176, cka_i h1.k177 h1.l177, cka_i h1.k178 h1.l178, cka_i h1.k179 h1.l179, cka_i h1.k180 h1.l180, cka_i h1.k181 h1.l181, cka_i h1.k182 h1.l182, cka_i h1.k183 h1.l183, cka_i h1.k184 h1.l184, cka_i h1.k185 h1.l185, cka_i h1.k186 h1.l186, cka_i h1.k187 h1.l187, cka_i h1.k188 h1.l188, cka_i h1.k189 h1.l189, cka_i h1.k190 h1.l190, h25, e172, List.length_cons, Nat.add_sub_cancel, ht]
            exact IH hk _ _ _ ⟨rfl, h1, by rw [gi_x (by omega)]; exact h25, F1.wi (fun q => q rfl), _, hrun, rfl, hs.tl.push _⟩
        · rw [if_neg c3] at hst'
          cases st with
          | nil => cases hst'
          | cons b st1 =>
            cases st1 with
            | nil => cases hst'
            | cons a r =>
              cases hst'
              rw [List.length_cons, List.length_cons] at sl
              have ht := hs.top
              have ht2 := hs.tl.top
              rw [List.length_cons] at ht
              simp (disch := omega) only [vl_s, bp_s, bd_s, bv_s, i32_nl, i32_n, i32_add, i32_sub, i32_mul, i32_neg, i32_ca, i32_cm, i32_cs, i32_cn, i32_le, i32_lt, i32_eq, i32_cl, Int.toNat_natCast, if_pos, if_neg, ite_true, ite_false, not_true_eq_false, not_false_eq_true, Nat.add_zero, Nat.zero_add, Nat.add_sub_cancel, ck_p, cko_si, cka_si, cko_sl, cka_sl, gi_e, gi_x, gl_e, gl_x, gr_si, gl_si, gi_sl, gr_sl, cko_c h1.k (show 3 ∈ [3] by decide), dr_c h1.r2, dr_c h1.r9, dr_c h1.r10, dr_c h1.r11, dr_c h1.r12, dr_c h1.r13, dr_c h1.r14, dr_c h1.r15, dr_c h1.r16, dr_c h1.r21, dr_c h1.r23, dr_c h1.r24, dr_c h1.r27, dr_c h1.r28, dr_c h1.r30, dr_c h1.r33, dr_c h1.r34, dr_c h1.r36, dr_c h1.r37, dr_c h1.r38, dr_c h1.r41, dr_c h1.r43, dr_c h1.r44, dr_c h1.r45, dr_c h1.r46, dr_c h1.r47, dr_c h1.r50, dr_c h1.r51, dr_c h1.r52, cka_i h1.k162 h1.l162, cka_i h1.k163 h1.l163, cka_i h1.k164 h1.l164, cka_i h1.k165 h1.l165, cka_i h1.k166 h1.l166, cka_i h1.k167 h1.l167, cka_i h1.k168 h1.l168, cka_i h1.k169 h1.l169, cka_i h1.k170 h1.l170, cka_i h1.k171 h1.l171, cka_i h1.k172 h1.l172, cka_i h1.k173 h1.l173, cka_i h1.k174 h1.l174, cka_i h1.k175 h1.l175, cka_i h1.k176 h1.l176, cka_i h1.k177 h1.l177, cka_i h1.k178 h1.l178, cka_i h1.k179 h1.l179, cka_i h1.k180 h1.l180, cka_i h1.k181 h1.l181, cka_i h1.k182 h1.l182, cka_i h1.k183 h1.l183, cka_i h1.k184 h1.l184, cka_i h1.k185 h1.l185, cka_i h1.k186 h1.l186, cka_i h1.k187 h1.l187, cka_i h1.k188 h1.l188, cka_i h1.k189 h1.l189, cka_i h1.k190 h1.l190, h25, e172, List.length_cons, ht, ht2, X3_worked]
              exact IH hk _ _ _ ⟨rfl, h1, by rw [gi_x (by omega)]; exact h25, F1.wi (fun q => q rfl), _, hrun, rfl, hs.tl.tl.push _⟩
  · have : k = S.rul.1.length := by omega
    subst this
    rw [List.take_length] at hst
    have e0 : gi σ1 175 0 = i32 S.shp.1 := by rw [F1.i (by omega) (by show (175 : Nat) ≠ 174; decide)]; exact ha 0 (by omega)
    by_cases hz : S.rul.1.length = 0
    · have hz2 : S.rul.1 = [] := List.length_eq_zero_iff.mp hz
      simp (disch := omega) only [vl_s, bp_s, bd_s, bv_s, i32_nl, i32_n, i32_add, i32_sub, i32_mul, i32_neg, i32_ca, i32_cm, i32_cs, i32_cn, i32_le, i32_lt, i32_eq, i32_cl, Int.toNat_natCast, if_pos, if_neg, ite_true, ite_false, not_true_eq_false, not_false_eq_true, Nat.add_zero, Nat.zero_add, Nat.add_sub_cancel, ck_p, cko_si, cka_si, cko_sl, cka_sl, gi_e, gi_x, gl_e, gl_x, gr_si, gl_si, gi_sl, gr_sl, cko_c h1.k (show 3 ∈ [3] by decide), dr_c h1.r2, dr_c h1.r9, dr_c h1.r10, dr_c h1.r11, dr_c h1.r12, dr_c h1.r13, dr_c h1.r14, dr_c h1.r15, dr_c h1.r16, dr_c h1.r21, dr_c h1.r23, dr_c h1.r24, dr_c h1.r27, dr_c h1.r28, dr_c h1.r30, dr_c h1.r33, dr_c h1.r34, dr_c h1.r36, dr_c h1.r37, dr_c h1.r38, dr_c h1.r41, dr_c h1.r43, dr_c h1.r44, dr_c h1.r45, dr_c h1.r46, dr_c h1.r47, dr_c h1.r50, dr_c h1.r51, dr_c h1.r52, cka_i h1.k162 h1.l162, cka_i h1.k163 h1.l163, cka_i h1.k164 h1.l164, cka_i h1.k165 h1.l165, cka_i h1.k166 h1.l166, cka_i h1.k167 h1.l167, cka_i h1.k168 h1.l168, cka_i h1.k169 h1.l169, cka_i h1.k170 h1.l170, cka_i h1.k171 h1.l171, cka_i h1.k172 h1.l172, cka_i h1.k173 h1.l173, cka_i h1.k174 h1.l174, cka_i h1.k175 h1.l175, cka_i h1.k176 h1.l176, cka_i h1.k177 h1.l177, cka_i h1.k178 h1.l178, cka_i h1.k179 h1.l179, cka_i h1.k180 h1.l180, cka_i h1.k181 h1.l181, cka_i h1.k182 h1.l182, cka_i h1.k183 h1.l183, cka_i h1.k184 h1.l184, cka_i h1.k185 h1.l185, cka_i h1.k186 h1.l186, cka_i h1.k187 h1.l187, cka_i h1.k188 h1.l188, cka_i h1.k189 h1.l189, cka_i h1.k190 h1.l190, h25, e0, i32_div, clamp_v]
      refine ok_some ⟨?_, F1⟩
      have e1 : ruleV S s = i32 (S.shp.1 / 8 + 1) := by unfold ruleV; rw [if_pos hz2]
      show i32 (max 1 (min 12 _)) = i32 (dly S s)
      unfold dly
      rw [e1]
      rfl
    · have hz2 : S.rul.1 ≠ [] := fun q => hz (by rw [q]; rfl)
      rcases g3 with g3 | g3
      · exact absurd g3 hz2
      obtain ⟨v, hv⟩ := g3 (envS S s)
      rw [hv] at hst
      cases hst
      have e3 : gi σ1 174 0 = v := hs.top
      simp (disch := omega) only [vl_s, bp_s, bd_s, bv_s, i32_nl, i32_n, i32_add, i32_sub, i32_mul, i32_neg, i32_ca, i32_cm, i32_cs, i32_cn, i32_le, i32_lt, i32_eq, i32_cl, Int.toNat_natCast, if_pos, if_neg, ite_true, ite_false, not_true_eq_false, not_false_eq_true, Nat.add_zero, Nat.zero_add, Nat.add_sub_cancel, ck_p, cko_si, cka_si, cko_sl, cka_sl, gi_e, gi_x, gl_e, gl_x, gr_si, gl_si, gi_sl, gr_sl, cko_c h1.k (show 3 ∈ [3] by decide), dr_c h1.r2, dr_c h1.r9, dr_c h1.r10, dr_c h1.r11, dr_c h1.r12, dr_c h1.r13, dr_c h1.r14, dr_c h1.r15, dr_c h1.r16, dr_c h1.r21, dr_c h1.r23, dr_c h1.r24, dr_c h1.r27, dr_c h1.r28, dr_c h1.r30, dr_c h1.r33, dr_c h1.r34, dr_c h1.r36, dr_c h1.r37, dr_c h1.r38, dr_c h1.r41, dr_c h1.r43, dr_c h1.r44, dr_c h1.r45, dr_c h1.r46, dr_c h1.r47, dr_c h1.r50, dr_c h1.r51, dr_c h1.r52, cka_i h1.k162 h1.l162, cka_i h1.k163 h1.l163, cka_i h1.k164 h1.l164, cka_i h1.k165 h1.l165, cka_i h1.k166 h1.l166, cka_i h1.k167 h1.l167, cka_i h1.k168 h1.l168, cka_i h1.k169 h1.l169, cka_i h1.k170 h1.l170, cka_i h1.k171 h1.l171, cka_i h1.k172 h1.l172, cka_i h1.k173 h1.l173, cka_i h1.k174 h1.l174, cka_i h1.k175 h1.l175, cka_i h1.k176 h1.l176, cka_i h1.k177 h1.l177, cka_i h1.k178 h1.l178, cka_i h1.k179 h1.l179, cka_i h1.k180 h1.l180, cka_i h1.k181 h1.l181, cka_i h1.k182 h1.l182, cka_i h1.k183 h1.l183, cka_i h1.k184 h1.l184, cka_i h1.k185 h1.l185, cka_i h1.k186 h1.l186, cka_i h1.k187 h1.l187, cka_i h1.k188 h1.l188, cka_i h1.k189 h1.l189, cka_i h1.k190 h1.l190, h25, e3, clamp_v]
      refine ok_some ⟨?_, F1⟩
      have e1 : ruleV S s = v := by unfold ruleV; rw [if_neg hz2, hv]
      show i32 (max 1 (min 12 _)) = i32 (dly S s)
      unfold dly
      rw [e1]
theorem M_delayAt {S : St} {σ : vMem} {B : Int} {s : Int} (h : RM S σ) (g : gSt B S) (h1 : 0 ≤ s) (h2 : s ≤ 1000100) : ok (f_X3_delayAt σ 161 (i32 s)) (fun r => r.1 = i32 (dly S s) ∧ RM S r.2 ∧ Fr (fun b _ => b ≠ 174 ∧ b ≠ 175) 0 0 σ r.2) := by
  have hm := h.ml
  have q3 := h.shp.1
  have q4 := h.shp.2.1
  have q5 := h.shp.2.2.1
  unfold f_X3_delayAt
  simp (disch := omega) only [vl_s, bp_s, bd_s, bv_s, i32_nl, i32_n, i32_add, i32_sub, i32_mul, i32_neg, i32_ca, i32_cm, i32_cs, i32_cn, i32_le, i32_lt, i32_eq, i32_cl, Int.toNat_natCast, if_pos, if_neg, ite_true, ite_false, not_true_eq_false, not_false_eq_true, Nat.add_zero, Nat.zero_add, Nat.add_sub_cancel, ck_p, cko_si, cka_si, cko_sl, cka_sl, gi_e, gi_x, gl_e, gl_x, gr_si, gl_si, gi_sl, gr_sl, cko_c hm.k (show 3 ∈ [3] by decide), dr_c hm.r2, dr_c hm.r9, dr_c hm.r10, dr_c hm.r11, dr_c hm.r12, dr_c hm.r13, dr_c hm.r14, dr_c hm.r15, dr_c hm.r16, dr_c hm.r21, dr_c hm.r23, dr_c hm.r24, dr_c hm.r27, dr_c hm.r28, dr_c hm.r30, dr_c hm.r33, dr_c hm.r34, dr_c hm.r36, dr_c hm.r37, dr_c hm.r38, dr_c hm.r41, dr_c hm.r43, dr_c hm.r44, dr_c hm.r45, dr_c hm.r46, dr_c hm.r47, dr_c hm.r50, dr_c hm.r51, dr_c hm.r52, cka_i hm.k162 hm.l162, cka_i hm.k163 hm.l163, cka_i hm.k164 hm.l164, cka_i hm.k165 hm.l165, cka_i hm.k166 hm.l166, cka_i hm.k167 hm.l167, cka_i hm.k168 hm.l168, cka_i hm.k169 hm.l169, cka_i hm.k170 hm.l170, cka_i hm.k171 hm.l171, cka_i hm.k172 hm.l172, cka_i hm.k173 hm.l173, cka_i hm.k174 hm.l174, cka_i hm.k175 hm.l175, cka_i hm.k176 hm.l176, cka_i hm.k177 hm.l177, cka_i hm.k178 hm.l178, cka_i hm.k179 hm.l179, cka_i hm.k180 hm.l180, cka_i hm.k181 hm.l181, cka_i hm.k182 hm.l182, cka_i hm.k183 hm.l183, cka_i hm.k184 hm.l184, cka_i hm.k185 hm.l185, cka_i hm.k186 hm.l186, cka_i hm.k187 hm.l187, cka_i hm.k188 hm.l188, cka_i hm.k189 hm.l189, cka_i hm.k190 hm.l190, q3, q4, q5, i32_div]
  generalize hσ : si (si (si (si σ 175 0 (i32 S.shp.1)) 175 1 (i32 S.shp.2.1)) 175 2 (i32 (liars S.shp S.shp.2.1))) 175 3 _ = σ1
  have F1 : Fr (fun b _ => b ≠ 174 ∧ b ≠ 175) 0 0 σ σ1 := by
    rw [← hσ]
    exact (((Fr.rf.wi (by omega)).wi (by omega)).wi (by omega)).wi (by omega)
  have KM0 : ∀ b j, KM [0] b j → b ≠ 174 ∧ b ≠ 175 := fun b j q => ⟨fun e => q (by subst e; rw [show reg 174 j = 0 from rfl]; decide), fun e => q (by subst e; rw [show reg 175 j = 0 from rfl]; decide)⟩
  have h1 := h.u0 (F1.mono KM0)
  refine ok_bd (M_ruled (s := s) h1 g.rul g.shp (fun i hi => ?_)) ?_
  · subst hσ
    have hi : i = 0 ∨ i = 1 ∨ i = 2 ∨ i = 3 := by omega
    rcases hi with rfl | rfl | rfl | rfl <;> (simp (disch := omega) only [cko_si, cka_si, cko_sl, cka_sl, gi_e, gi_x, gl_e, gl_x, gr_si, gl_si, gi_sl, gr_sl]; rfl)
  · rintro x σ2 ⟨rfl, F2⟩
    exact ok_some ⟨rfl, h1.u0 (F2.mono K174_M), F1.tr0 (F2.mono (fun b j q => q.1))⟩
