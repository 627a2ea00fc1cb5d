/-! THE MODEL: the fewest orders by lanes (names from here on: 7a, 7b .. ahead of late/80) -/
set_option maxRecDepth 100000
def clW (l : Nat) (w : Int) : Nat := (clampI (l + w)).toNat
theorem clW_i (l : Nat) (w : Int) : clampI (l + w) = clW l w := by
  have := clampI_b (l + w)
  unfold clW
  omega
theorem clW_b (l : Nat) (w : Int) : clW l w ≤ 8 := by
  have := clampI_b (l + w)
  unfold clW
  omega
/-- costs by lanes, moved by w, one dearer or not, beside others -/
def push (c : Nat → Int) (w p : Int) (nx : Nat → Int) : Nat → (Nat → Int)
  | 0 => nx
  | l + 1 => up1 (push c w p nx l) (clW l w) (min (push c w p nx l (clW l w)) (c l + p))
def goesF (c : Nat → Int) (v : Int) (any : Bool) : Nat → Int := if any then push c 1 1 (push c 0 0 (push c (-1) 1 (fun _ => 1000) 9) 9) 9 else push c v 0 (fun _ => 1000) 9
/-- what costs are -/
def gC (c : Nat → Int) : Prop := ∀ l, l < 9 → 0 ≤ c l ∧ c l ≤ 1000
theorem push_g {c nx : Nat → Int} {w p : Int} (hc : gC c) (hn : gC nx) (hp : 0 ≤ p) : ∀ n, n ≤ 9 → gC (push c w p nx n)
  | 0, _ => hn
  | n + 1, h => by
    have ih := push_g (w := w) hc hn hp n (by omega)
    intro l hl
    have h1 := hc n (by omega)
    have h2 := ih l hl
    show 0 ≤ up1 (push c w p nx n) (clW n w) _ l ∧ up1 (push c w p nx n) (clW n w) _ l ≤ 1000
    unfold up1
    split
    · have h3 := ih (clW n w) (by have := clW_b n w; omega)
      omega
    · exact h2
theorem gC_1000 : gC (fun _ => 1000) := fun l _ => ⟨by show (0 : Int) ≤ 1000; decide, Int.le_refl _⟩
theorem goesF_g {c : Nat → Int} {v : Int} {any : Bool} (hc : gC c) : gC (goesF c v any) := by
  unfold goesF
  split
  · exact push_g hc (push_g hc (push_g hc gC_1000 (by decide) 9 (by decide)) (by decide) 9 (by decide)) (by decide) 9 (by decide)
  · exact push_g hc gC_1000 (by decide) 9 (by decide)
def ArrIs (σ : vMem) (a n : Nat) (f : Nat → Int) : Prop := ∀ l, l < n → gi σ a l = i32 (f l)
def K181 (b _j : Nat) : Prop := b ≠ 181
def K180 (b _j : Nat) : Prop := b ≠ 180 ∧ b ≠ 181
theorem K180_M (b j : Nat) (h : KM [0] b j) : K180 b j := ⟨fun e => h (by subst e; rw [show reg 180 j = 0 from rfl]; decide), fun e => h (by subst e; rw [show reg 181 j = 0 from rfl]; decide)⟩
theorem X3_gb49 {σ : vMem} {c nx : Nat → Int} {x1 x2 : Int32} {w p : Int} {K : vMem → Option vMem} {Q : vMem → Prop} (hm : ML σ) (hn : 192 ≤ mn σ) (hc : gC c) (hnx : gC nx) (h1 : ArrIs σ 180 9 c) (h2 : ArrIs σ 181 9 nx) (hw1 : -1 ≤ w) (hw2 : w ≤ 1) (hp : p = if x2 = i32 ((0 : Nat) : Int) then 0 else if w = 0 then 0 else 1) (hK : ∀ σ1, ML σ1 → Fr K181 0 0 σ σ1 → ArrIs σ1 181 9 (push c w p nx 9) → ok (K σ1) Q) : ok (f_X3_goesBy_49 161 x1 x2 (i32 w) K FU σ (i32 ((0 : Nat) : Int))) Q := by
  have hp0 : 0 ≤ p ∧ p ≤ 1 := by rw [hp]; split; omega; split <;> omega
  refine loop2 (F := f_X3_goesBy_49 161 x1 x2 (i32 w) K) 9 (fun l σ1 v => v = i32 l ∧ ML σ1 ∧ Fr K181 0 0 σ σ1 ∧ ArrIs σ1 181 9 (push c w p nx l)) ?_ FU 0 σ _ (by omega) ⟨rfl, hm, Fr.rf, h2⟩ (by unfold FU; omega)
  rintro n l σ1 v hl ⟨rfl, hm1, F1, a1⟩ IH
  rw [f_X3_goesBy_49.eq_2]
  by_cases d : l < 9
  · have ec := clW_i l w
    have cb := clW_b l w
    have pg := push_g (w := w) hc hnx hp0.1 l (by omega)
    have b1 := pg (clW l w) (by omega)
    have b2 := hc l d
    have e1 := a1 (clW l w) (by omega)
    have e2 : gi σ1 180 l = i32 (c l) := by rw [F1.i (by omega) (by show (180 : Nat) ≠ 181; decide)]; exact h1 l d
    have ep : ∀ τ : vMem, f_X3_put τ (i32 (l + w)) = some (i32 (clW l w)) := fun τ => by rw [X3_put (by omega) (by omega), ec]
    have fin : ∀ z : Int, z = p → ok (f_X3_goesBy_49 161 x1 x2 (i32 w) K n (si σ1 181 (clW l w) (i32 (min (push c w p nx l (clW l w)) (c l + z)))) (i32 (l + 1 : Nat))) Q := by
      rintro z rfl
      refine IH d _ _ ⟨rfl, hm1, F1.wi (fun q => q rfl), fun m hm9 => ?_⟩
      show _ = i32 (up1 (push c w z nx l) (clW l w) (min (push c w z nx l (clW l w)) (c l + z)) m)
      by_cases e : m = clW l w
      · rw [e, up1_same, gi_e ⟨rfl, rfl⟩]
      · rw [up1_ne _ _ e, gi_x (by omega)]
        exact a1 m hm9
    clear IH hK
    by_cases cx : x2 = i32 ((0 : Nat) : Int)
    · rw [if_pos cx] at hp
      subst cx
      (try simp (disch := omega) only [vl_s, bp_s, bd_s, bv_s, i32_nl, i32_n, i32_add, i32_sub, i32_mul, i32_neg, i32_ca, i32_cm, i32_cs, i32_cn, i32_le, i32_lt, i32_eq, i32_cl, Int.toNat_natCast, if_pos, if_neg, ite_true, ite_false, not_true_eq_false, not_false_eq_true, Nat.add_zero, Nat.zero_add, Nat.add_sub_cancel, ck_p, cko_si, cka_si, cko_sl, cka_sl, gi_e, gi_x, gl_e, gl_x, gr_si, gl_si, gi_sl, gr_sl, cko_c hm1.k (show 3 ∈ [3] by decide), dr_c hm1.r2, dr_c hm1.r9, dr_c hm1.r10, dr_c hm1.r11, dr_c hm1.r12, dr_c hm1.r13, dr_c hm1.r14, dr_c hm1.r15, dr_c hm1.r16, dr_c hm1.r21, dr_c hm1.r23, dr_c hm1.r24, dr_c hm1.r27, dr_c hm1.r28, dr_c hm1.r30, dr_c hm1.r33, dr_c hm1.r34, dr_c hm1.r36, dr_c hm1.r37, dr_c hm1.r38, dr_c hm1.r41, dr_c hm1.r43, dr_c hm1.r44, dr_c hm1.r45, dr_c hm1.r46, dr_c hm1.r47, dr_c hm1.r50, dr_c hm1.r51, dr_c hm1.r52, cka_i hm1.k162 hm1.l162, cka_i hm1.k163 hm1.l163, cka_i hm1.k164 hm1.l164, cka_i hm1.k165 hm1.l165, cka_i hm1.k166 hm1.l166, cka_i hm1.k167 hm1.l167, cka_i hm1.k168 hm1.l168, cka_i hm1.k169 hm1.l169, cka_i hm1.k170 hm1.l170, cka_i hm1.k171 hm1.l171, cka_i hm1.k172 hm1.l172, cka_i hm1.k173 hm1.l173, cka_i hm1.k174 hm1.l174, cka_i hm1.k175 hm1.l175, cka_i hm1.k176 hm1.l176, cka_i hm1.k177 hm1.l177, cka_i hm1.k178 hm1.l178, cka_i hm1.k179 hm1.l179, cka_i hm1.k180 hm1.l180, cka_i hm1.k181 hm1.l181, cka_i hm1.k182 hm1.l182, cka_i hm1.k183 hm1.l183, cka_i hm1.k184 hm1.l184, cka_i hm1.k185 hm1.l185, cka_i hm1.k186 hm1.l186, cka_i hm1.k187 hm1.l187, cka_i hm1.k188 hm1.l188, cka_i hm1.k189 hm1.l189, cka_i hm1.k190 hm1.l190, ep, e1, e2, X3_flag0, imin_i])
      exact fin 0 hp.symm
    · rw [if_neg cx] at hp
      by_cases cw : w = 0
      · rw [if_pos cw] at hp
        (try simp (disch := omega) only [vl_s, bp_s, bd_s, bv_s, i32_nl, i32_n, i32_add, i32_sub, i32_mul, i32_neg, i32_ca, i32_cm, i32_cs, i32_cn, i32_le, i32_lt, i32_eq, i32_cl, Int.toNat_natCast, if_pos, if_neg, ite_true, ite_false, not_true_eq_false, not_false_eq_true, Nat.add_zero, Nat.zero_add, Nat.add_sub_cancel, ck_p, cko_si, cka_si, cko_sl, cka_sl, gi_e, gi_x, gl_e, gl_x, gr_si, gl_si, gi_sl, gr_sl, cko_c hm1.k (show 3 ∈ [3] by decide), dr_c hm1.r2, dr_c hm1.r9, dr_c hm1.r10, dr_c hm1.r11, dr_c hm1.r12, dr_c hm1.r13, dr_c hm1.r14, dr_c hm1.r15, dr_c hm1.r16, dr_c hm1.r21, dr_c hm1.r23, dr_c hm1.r24, dr_c hm1.r27, dr_c hm1.r28, dr_c hm1.r30, dr_c hm1.r33, dr_c hm1.r34, dr_c hm1.r36, dr_c hm1.r37, dr_c hm1.r38, dr_c hm1.r41, dr_c hm1.r43, dr_c hm1.r44, dr_c hm1.r45, dr_c hm1.r46, dr_c hm1.r47, dr_c hm1.r50, dr_c hm1.r51, dr_c hm1.r52, cka_i hm1.k162 hm1.l162, cka_i hm1.k163 hm1.l163, cka_i hm1.k164 hm1.l164, cka_i hm1.k165 hm1.l165, cka_i hm1.k166 hm1.l166, cka_i hm1.k167 hm1.l167, cka_i hm1.k168 hm1.l168, cka_i hm1.k169 hm1.l169, cka_i hm1.k170 hm1.l170, cka_i hm1.k171 hm1.l171, cka_i hm1.k172 hm1.l172, cka_i hm1.k173 hm1.l173, cka_i hm1.k174 hm1.l174, cka_i hm1.k175 hm1.l175, cka_i hm1.k176 hm1.l176, cka_i hm1.k177 hm1.l177, cka_i hm1.k178 hm1.l178, cka_i hm1.k179 hm1.l179, cka_i hm1.k180 hm1.l180, cka_i hm1.k181 hm1.l181, cka_i hm1.k182 hm1.l182, cka_i hm1.k183 hm1.l183, cka_i hm1.k184 hm1.l184, cka_i hm1.k185 hm1.l185, cka_i hm1.k186 hm1.l186, cka_i hm1.k187 hm1.l187, cka_i hm1.k188 hm1.l188, cka_i hm1.k189 hm1.l189, cka_i hm1.k190 hm1.l190, ep, e1, e2, X3_flag0, imin_i, cx])
        exact fin 0 hp.symm
      · rw [if_neg cw] at hp
        (try simp (disch := omega) only [vl_s, bp_s, bd_s, bv_s, i32_nl, i32_n, i32_add, i32_sub, i32_mul, i32_neg, i32_ca, i32_cm, i32_cs, i32_cn, i32_le, i32_lt, i32_eq, i32_cl, Int.toNat_natCast, if_pos, if_neg, ite_true, ite_false, not_true_eq_false, not_false_eq_true, Nat.add_zero, Nat.zero_add, Nat.add_sub_cancel, ck_p, cko_si, cka_si, cko_sl, cka_sl, gi_e, gi_x, gl_e, gl_x, gr_si, gl_si, gi_sl, gr_sl, cko_c hm1.k (show 3 ∈ [3] by decide), dr_c hm1.r2, dr_c hm1.r9, dr_c hm1.r10, dr_c hm1.r11, dr_c hm1.r12, dr_c hm1.r13, dr_c hm1.r14, dr_c hm1.r15, dr_c hm1.r16, dr_c hm1.r21, dr_c hm1.r23, dr_c hm1.r24, dr_c hm1.r27, dr_c hm1.r28, dr_c hm1.r30, dr_c hm1.r33, dr_c hm1.r34, dr_c hm1.r36, dr_c hm1.r37, dr_c hm1.r38, dr_c hm1.r41, dr_c hm1.r43, dr_c hm1.r44, dr_c hm1.r45, dr_c hm1.r46, dr_c hm1.r47, dr_c hm1.r50, dr_c hm1.r51, dr_c hm1.r52, cka_i hm1.k162 hm1.l162, cka_i hm1.k163 hm1.l163, cka_i hm1.k164 hm1.l164, cka_i hm1.k165 hm1.l165, cka_i hm1.k166 hm1.l166, cka_i hm1.k167 hm1.l167, cka_i hm1.k168 hm1.l168, cka_i hm1.k169 hm1.l169, cka_i hm1.k170 hm1.l170, cka_i hm1.k171 hm1.l171, cka_i hm1.k172 hm1.l172, cka_i hm1.k173 hm1.l173, cka_i hm1.k174 hm1.l174, cka_i hm1.k175 hm1.l175, cka_i hm1.k176 hm1.l176, cka_i hm1.k177 hm1.l177, cka_i hm1.k178 hm1.l178, cka_i hm1.k179 hm1.l179, cka_i hm1.k180 hm1.l180, cka_i hm1.k181 hm1.l181, cka_i hm1.k182 hm1.l182, cka_i hm1.k183 hm1.l183, cka_i hm1.k184 hm1.l184, cka_i hm1.k185 hm1.l185, cka_i hm1.k186 hm1.l186, cka_i hm1.k187 hm1.l187, cka_i hm1.k188 hm1.l188, cka_i hm1.k189 hm1.l189, cka_i hm1.k190 hm1.l190, ep, e1, e2, X3_flag1, imin_i, cx])
        exact fin 1 hp.symm
  · have : l = 9 := by omega
    subst this
    (try simp (disch := omega) only [vl_s, bp_s, bd_s, bv_s, i32_nl, i32_n, i32_add, i32_sub, i32_mul, i32_neg, i32_ca, i32_cm, i32_cs, i32_cn, i32_le, i32_lt, i32_eq, i32_cl, Int.toNat_natCast, if_pos, if_neg, ite_true, ite_false, not_true_eq_false, not_false_eq_true, Nat.add_zero, Nat.zero_add, Nat.add_sub_cancel, ck_p, cko_si, cka_si, cko_sl, cka_sl, gi_e, gi_x, gl_e, gl_x, gr_si, gl_si, gi_sl, gr_sl])
    exact hK σ1 hm1 F1 a1
theorem X3_goesBy {σ : vMem} {c : Nat → Int} {v : Int} {any : Bool} (hm : ML σ) (hn : 192 ≤ mn σ) (hc : gC c) (h1 : ArrIs σ 180 9 c) (hv1 : -2 ≤ v) (hv2 : v ≤ 2) (hv : any = false → -1 ≤ v ∧ v ≤ 1) : ok (f_X3_goesBy σ 161 (i32 v) (bI any)) (fun σ' => ML σ' ∧ Fr K180 0 0 σ σ' ∧ ArrIs σ' 180 9 (goesF c v any)) := by
  unfold f_X3_goesBy
  -- the copy back
  have back : ∀ σ2 nx, ML σ2 → Fr K181 0 0 σ σ2 → ArrIs σ2 181 9 nx → nx = goesF c v any → ok (f_X3_goesBy_120 161 FU σ2 (i32 ((0 : Nat) : Int))) (fun σ' => ML σ' ∧ Fr K180 0 0 σ σ' ∧ ArrIs σ' 180 9 (goesF c v any)) := by
    rintro σ2 nx hm2 F2 a2 rfl
    refine loop2 (F := f_X3_goesBy_120 161) 9 (fun l σ3 x => x = i32 l ∧ ML σ3 ∧ Fr (fun b _ => b ≠ 180) 0 0 σ2 σ3 ∧ ∀ m, m < l → gi σ3 180 m = i32 (goesF c v any m)) ?_ FU 0 σ2 _ (by omega) ⟨rfl, hm2, Fr.rf, fun m hm => by omega⟩ (by unfold FU; omega)
    rintro n l σ3 x hl ⟨rfl, hm3, F3, a3⟩ IH
    rw [f_X3_goesBy_120.eq_2]
    by_cases d : l < 9
    · have e1 : gi σ3 181 l = i32 (goesF c v any l) := by rw [F3.i (by have := F2.n; omega) (by decide)]; exact a2 l d
      (try simp (disch := omega) only [vl_s, bp_s, bd_s, bv_s, i32_nl, i32_n, i32_add, i32_sub, i32_mul, i32_neg, i32_ca, i32_cm, i32_cs, i32_cn, i32_le, i32_lt, i32_eq, i32_cl, Int.toNat_natCast, if_pos, if_neg, ite_true, ite_false, not_true_eq_false, not_false_eq_true, Nat.add_zero, Nat.zero_add, Nat.add_sub_cancel, ck_p, cko_si, cka_si, cko_sl, cka_sl, gi_e, gi_x, gl_e, gl_x, gr_si, gl_si, gi_sl, gr_sl, cko_c hm3.k (show 3 ∈ [3] by decide), dr_c hm3.r2, dr_c hm3.r9, dr_c hm3.r10, dr_c hm3.r11, dr_c hm3.r12, dr_c hm3.r13, dr_c hm3.r14, dr_c hm3.r15, dr_c hm3.r16, dr_c hm3.r21, dr_c hm3.r23, dr_c hm3.r24, dr_c hm3.r27, dr_c hm3.r28, dr_c hm3.r30, dr_c hm3.r33, dr_c hm3.r34, dr_c hm3.r36, dr_c hm3.r37, dr_c hm3.r38, dr_c hm3.r41, dr_c hm3.r43, dr_c hm3.r44, dr_c hm3.r45, dr_c hm3.r46, dr_c hm3.r47, dr_c hm3.r50, dr_c hm3.r51, dr_c hm3.r52, cka_i hm3.k162 hm3.l162, cka_i hm3.k163 hm3.l163, cka_i hm3.k164 hm3.l164, cka_i hm3.k165 hm3.l165, cka_i hm3.k166 hm3.l166, cka_i hm3.k167 hm3.l167, cka_i hm3.k168 hm3.l168, cka_i hm3.k169 hm3.l169, cka_i hm3.k170 hm3.l170, cka_i hm3.k171 hm3.l171, cka_i hm3.k172 hm3.l172, cka_i hm3.k173 hm3.l173, cka_i hm3.k174 hm3.l174, cka_i hm3.k175 hm3.l175, cka_i hm3.k176 hm3.l176, cka_i hm3.k177 hm3.l177, cka_i hm3.k178 hm3.l178, cka_i hm3.k179 hm3.l179, cka_i hm3.k180 hm3.l180, cka_i hm3.k181 hm3.l181, cka_i hm3.k182 hm3.l182, cka_i hm3.k183 hm3.l183, cka_i hm3.k184 hm3.l184, cka_i hm3.k185 hm3.l185, cka_i hm3.k186 hm3.l186, cka_i hm3.k187 hm3.l187, cka_i hm3.k188 hm3.l188, cka_i hm3.k189 hm3.l189, cka_i hm3.k190 hm3.l190, e1])
      refine IH d _ _ ⟨rfl, hm3, F3.wi (fun q => q rfl), fun m hm => ?_⟩
      by_cases e : m = l
      · subst e; rw [gi_e ⟨rfl, rfl⟩]
      · rw [gi_x (by omega)]; exact a3 m (by omega)
    · have : l = 9 := by omega
      subst this
      (try simp (disch := omega) only [vl_s, bp_s, bd_s, bv_s, i32_nl, i32_n, i32_add, i32_sub, i32_mul, i32_neg, i32_ca, i32_cm, i32_cs, i32_cn, i32_le, i32_lt, i32_eq, i32_cl, Int.toNat_natCast, if_pos, if_neg, ite_true, ite_false, not_true_eq_false, not_false_eq_true, Nat.add_zero, Nat.zero_add, Nat.add_sub_cancel, ck_p, cko_si, cka_si, cko_sl, cka_sl, gi_e, gi_x, gl_e, gl_x, gr_si, gl_si, gi_sl, gr_sl])
      exact ok_some ⟨hm3, (F2.mono (fun b j q => q.2)).tr0 (F3.mono (fun b j q => q.1)), a3⟩
  generalize hQ : (fun σ' => ML σ' ∧ Fr K180 0 0 σ σ' ∧ ArrIs σ' 180 9 (goesF c v any)) = Q at back ⊢
  (try simp (disch := omega) only [vl_s, bp_s, bd_s, bv_s, i32_nl, i32_n, i32_add, i32_sub, i32_mul, i32_neg, i32_ca, i32_cm, i32_cs, i32_cn, i32_le, i32_lt, i32_eq, i32_cl, Int.toNat_natCast, if_pos, if_neg, ite_true, ite_false, not_true_eq_false, not_false_eq_true, Nat.add_zero, Nat.zero_add, Nat.add_sub_cancel, ck_p, cko_si, cka_si, cko_sl, cka_sl, gi_e, gi_x, gl_e, gl_x, gr_si, gl_si, gi_sl, gr_sl])
  refine loop2 (F := f_X3_goesBy_2 161 (i32 v) (bI any) _) 9 (fun l σ1 x => x = i32 l ∧ ML σ1 ∧ Fr K181 0 0 σ σ1 ∧ ∀ m, m < l → gi σ1 181 m = i32 1000) ?_ FU 0 σ _ (by omega) ⟨rfl, hm, Fr.rf, fun m hm => by omega⟩ (by unfold FU; omega)
  rintro n l σ1 x hl ⟨rfl, hm1, F1, a1⟩ IH
  rw [f_X3_goesBy_2.eq_2]
  by_cases d : l < 9
  · (try simp (disch := omega) only [vl_s, bp_s, bd_s, bv_s, i32_nl, i32_n, i32_add, i32_sub, i32_mul, i32_neg, i32_ca, i32_cm, i32_cs, i32_cn, i32_le, i32_lt, i32_eq, i32_cl, Int.toNat_natCast, if_pos, if_neg, ite_true, ite_false, not_true_eq_false, not_false_eq_true, Nat.add_zero, Nat.zero_add, Nat.add_sub_cancel, ck_p, cko_si, cka_si, cko_sl, cka_sl, gi_e, gi_x, gl_e, gl_x, gr_si, gl_si, gi_sl, gr_sl, cko_c hm1.k (show 3 ∈ [3] by decide), dr_c hm1.r2, dr_c hm1.r9, dr_c hm1.r10, dr_c hm1.r11, dr_c hm1.r12, dr_c hm1.r13, dr_c hm1.r14, dr_c hm1.r15, dr_c hm1.r16, dr_c hm1.r21, dr_c hm1.r23, dr_c hm1.r24, dr_c hm1.r27, dr_c hm1.r28, dr_c hm1.r30, dr_c hm1.r33, dr_c hm1.r34, dr_c hm1.r36, dr_c hm1.r37, dr_c hm1.r38, dr_c hm1.r41, dr_c hm1.r43, dr_c hm1.r44, dr_c hm1.r45, dr_c hm1.r46, dr_c hm1.r47, dr_c hm1.r50, dr_c hm1.r51, dr_c hm1.r52, cka_i hm1.k162 hm1.l162, cka_i hm1.k163 hm1.l163, cka_i hm1.k164 hm1.l164, cka_i hm1.k165 hm1.l165, cka_i hm1.k166 hm1.l166, cka_i hm1.k167 hm1.l167, cka_i hm1.k168 hm1.l168, cka_i hm1.k169 hm1.l169, cka_i hm1.k170 hm1.l170, cka_i hm1.k171 hm1.l171, cka_i hm1.k172 hm1.l172, cka_i hm1.k173 hm1.l173, cka_i hm1.k174 hm1.l174, cka_i hm1.k175 hm1.l175, cka_i hm1.k176 hm1.l176, cka_i hm1.k177 hm1.l177, cka_i hm1.k178 hm1.l178, cka_i hm1.k179 hm1.l179, cka_i hm1.k180 hm1.l180, cka_i hm1.k181 hm1.l181, cka_i hm1.k182 hm1.l182, cka_i hm1.k183 hm1.l183, cka_i hm1.k184 hm1.l184, cka_i hm1.k185 hm1.l185, cka_i hm1.k186 hm1.l186, cka_i hm1.k187 hm1.l187, cka_i hm1.k188 hm1.l188, cka_i hm1.k189 hm1.l189, cka_i hm1.k190 hm1.l190])
    refine IH d _ _ ⟨rfl, hm1, F1.wi (fun q => q rfl), fun m hm => ?_⟩
    by_cases e : m = l
    · subst e; rw [gi_e ⟨rfl, rfl⟩]; rfl
    · rw [gi_x (by omega)]; exact a1 m (by omega)
  · have : l = 9 := by omega
    subst this
    clear IH
    have n1 : 192 ≤ mn σ1 := Nat.le_trans hn F1.n
    have c1 : ArrIs σ1 180 9 c := fun l hl => by rw [F1.i (by omega) (by show (180 : Nat) ≠ 181; decide)]; exact h1 l hl
    have one : ¬ i32 ((1 : Nat) : Int) = i32 ((0 : Nat) : Int) := by decide
    cases any with
    | false =>
      obtain ⟨w1, w2⟩ := hv rfl
      rw [bI_f] at *
      (try simp (disch := omega) only [vl_s, bp_s, bd_s, bv_s, i32_nl, i32_n, i32_add, i32_sub, i32_mul, i32_neg, i32_ca, i32_cm, i32_cs, i32_cn, i32_le, i32_lt, i32_eq, i32_cl, Int.toNat_natCast, if_pos, if_neg, ite_true, ite_false, not_true_eq_false, not_false_eq_true, Nat.add_zero, Nat.zero_add, Nat.add_sub_cancel, ck_p, cko_si, cka_si, cko_sl, cka_sl, gi_e, gi_x, gl_e, gl_x, gr_si, gl_si, gi_sl, gr_sl])
      rw [show FU = 1048574 + 1 + 1 from rfl, f_X3_goesBy_33.eq_2]
      (try simp (disch := omega) only [vl_s, bp_s, bd_s, bv_s, i32_nl, i32_n, i32_add, i32_sub, i32_mul, i32_neg, i32_ca, i32_cm, i32_cs, i32_cn, i32_le, i32_lt, i32_eq, i32_cl, Int.toNat_natCast, if_pos, if_neg, ite_true, ite_false, not_true_eq_false, not_false_eq_true, Nat.add_zero, Nat.zero_add, Nat.add_sub_cancel, ck_p, cko_si, cka_si, cko_sl, cka_sl, gi_e, gi_x, gl_e, gl_x, gr_si, gl_si, gi_sl, gr_sl])
      refine X3_gb49 (p := 0) hm1 n1 hc gC_1000 c1 a1 w1 w2 (by rw [if_pos rfl]) (fun σ2 hm2 F2 a2 => ?_)
      rw [f_X3_goesBy_33.eq_2]
      (try simp (disch := omega) only [vl_s, bp_s, bd_s, bv_s, i32_nl, i32_n, i32_add, i32_sub, i32_mul, i32_neg, i32_ca, i32_cm, i32_cs, i32_cn, i32_le, i32_lt, i32_eq, i32_cl, Int.toNat_natCast, if_pos, if_neg, ite_true, ite_false, not_true_eq_false, not_false_eq_true, Nat.add_zero, Nat.zero_add, Nat.add_sub_cancel, ck_p, cko_si, cka_si, cko_sl, cka_sl, gi_e, gi_x, gl_e, gl_x, gr_si, gl_si, gi_sl, gr_sl])
      exact back σ2 _ hm2 (F1.tr0 F2) a2 rfl
    | true =>
      rw [bI_t] at *
      (try simp (disch := omega) only [vl_s, bp_s, bd_s, bv_s, i32_nl, i32_n, i32_add, i32_sub, i32_mul, i32_neg, i32_ca, i32_cm, i32_cs, i32_cn, i32_le, i32_lt, i32_eq, i32_cl, Int.toNat_natCast, if_pos, if_neg, ite_true, ite_false, not_true_eq_false, not_false_eq_true, Nat.add_zero, Nat.zero_add, Nat.add_sub_cancel, ck_p, cko_si, cka_si, cko_sl, cka_sl, gi_e, gi_x, gl_e, gl_x, gr_si, gl_si, gi_sl, gr_sl, one])
      rw [show FU = 1048572 + 1 + 1 + 1 + 1 from rfl, f_X3_goesBy_33.eq_2]
      (try simp (disch := omega) only [vl_s, bp_s, bd_s, bv_s, i32_nl, i32_n, i32_add, i32_sub, i32_mul, i32_neg, i32_ca, i32_cm, i32_cs, i32_cn, i32_le, i32_lt, i32_eq, i32_cl, Int.toNat_natCast, if_pos, if_neg, ite_true, ite_false, not_true_eq_false, not_false_eq_true, Nat.add_zero, Nat.zero_add, Nat.add_sub_cancel, ck_p, cko_si, cka_si, cko_sl, cka_sl, gi_e, gi_x, gl_e, gl_x, gr_si, gl_si, gi_sl, gr_sl, one])
      refine X3_gb49 (w := -1) (p := 1) hm1 n1 hc gC_1000 c1 a1 (by decide) (by decide) (by rw [if_neg one, if_neg (by decide)]) (fun σ2 hm2 F2 a2 => ?_)
      have g2 := push_g (w := -1) (p := 1) hc gC_1000 (by decide) 9 (by decide)
      have c2 : ArrIs σ2 180 9 c := fun l hl => by rw [F2.i (by omega) (by show (180 : Nat) ≠ 181; decide)]; exact c1 l hl
      rw [f_X3_goesBy_33.eq_2]
      (try simp (disch := omega) only [vl_s, bp_s, bd_s, bv_s, i32_nl, i32_n, i32_add, i32_sub, i32_mul, i32_neg, i32_ca, i32_cm, i32_cs, i32_cn, i32_le, i32_lt, i32_eq, i32_cl, Int.toNat_natCast, if_pos, if_neg, ite_true, ite_false, not_true_eq_false, not_false_eq_true, Nat.add_zero, Nat.zero_add, Nat.add_sub_cancel, ck_p, cko_si, cka_si, cko_sl, cka_sl, gi_e, gi_x, gl_e, gl_x, gr_si, gl_si, gi_sl, gr_sl, one])
      refine X3_gb49 (w := 0) (p := 0) hm2 (Nat.le_trans n1 F2.n) hc g2 c2 a2 (by decide) (by decide) (by rw [if_neg one, if_pos rfl]) (fun σ3 hm3 F3 a3 => ?_)
      have g3 := push_g (w := 0) (p := 0) hc g2 (by decide) 9 (by decide)
      have c3 : ArrIs σ3 180 9 c := fun l hl => by rw [F3.i (by have := F2.n; omega) (by show (180 : Nat) ≠ 181; decide)]; exact c2 l hl
      rw [f_X3_goesBy_33.eq_2]
      (try simp (disch := omega) only [vl_s, bp_s, bd_s, bv_s, i32_nl, i32_n, i32_add, i32_sub, i32_mul, i32_neg, i32_ca, i32_cm, i32_cs, i32_cn, i32_le, i32_lt, i32_eq, i32_cl, Int.toNat_natCast, if_pos, if_neg, ite_true, ite_false, not_true_eq_false, not_false_eq_true, Nat.add_zero, Nat.zero_add, Nat.add_sub_cancel, ck_p, cko_si, cka_si, cko_sl, cka_sl, gi_e, gi_x, gl_e, gl_x, gr_si, gl_si, gi_sl, gr_sl, one])
      refine X3_gb49 (w := 1) (p := 1) hm3 (Nat.le_trans n1 (Nat.le_trans F2.n F3.n)) hc g3 c3 a3 (by decide) (by decide) (by rw [if_neg one, if_neg (by decide)]) (fun σ4 hm4 F4 a4 => ?_)
      rw [f_X3_goesBy_33.eq_2]
      (try simp (disch := omega) only [vl_s, bp_s, bd_s, bv_s, i32_nl, i32_n, i32_add, i32_sub, i32_mul, i32_neg, i32_ca, i32_cm, i32_cs, i32_cn, i32_le, i32_lt, i32_eq, i32_cl, Int.toNat_natCast, if_pos, if_neg, ite_true, ite_false, not_true_eq_false, not_false_eq_true, Nat.add_zero, Nat.zero_add, Nat.add_sub_cancel, ck_p, cko_si, cka_si, cko_sl, cka_sl, gi_e, gi_x, gl_e, gl_x, gr_si, gl_si, gi_sl, gr_sl, one])
      exact back σ4 _ hm4 (((F1.tr0 F2).tr0 F3).tr0 F4) a4 rfl
