/-! A STEP, on a row -/
set_option maxRecDepth 100000
def sumN (f : Nat → Int) : Nat → Int
  | 0 => 0
  | n + 1 => sumN f n + f n
theorem sumN_b {f : Nat → Int} {c : Int} (hc : 0 ≤ c) : ∀ n, (∀ k, k < n → 0 ≤ f k ∧ f k ≤ c) → 0 ≤ sumN f n ∧ sumN f n ≤ c * n
  | 0, _ => ⟨Int.le_refl _, by show (0 : Int) ≤ c * ((0 : Nat) : Int); rw [Int.natCast_zero, Int.mul_zero]; exact Int.le_refl _⟩
  | n + 1, h => by
    have h1 := sumN_b hc n (fun k hk => h k (by omega))
    have h2 := h n (by omega)
    show 0 ≤ sumN f n + f n ∧ sumN f n + f n ≤ c * ((n + 1 : Nat) : Int)
    rw [Int.natCast_add, Int.mul_add]
    simp only [Int.natCast_one, Int.mul_one] at *
    omega
def hitN (s : Rck) (m l : Int) : Int := sumN (fun k => if s.2.1 k = m ∧ s.2.2 k = l then 1 else 0) s.1
def gRck (s : Rck) : Prop := s.1 ≤ 16 ∧ ∀ k, k < s.1 → (1 ≤ s.2.1 k ∧ s.2.1 k ≤ 999) ∧ 0 ≤ s.2.2 k ∧ s.2.2 k ≤ 8
def gMes (s : Mes) : Prop := s.1 ≤ 8 ∧ ∀ k, k < s.1 → 0 ≤ s.2.1 k ∧ s.2.1 k ≤ 9
def gW (B : Int) (W : Wt) : Prop := (0 ≤ W.now ∧ W.now ≤ B ∧ 0 ≤ W.lane ∧ W.lane ≤ 8 ∧ -1 ≤ W.given ∧ W.given ≤ W.now ∧ W.ways.length ≤ 12) ∧ (∀ q ∈ W.ways, W.now < q.1 ∧ q.1 ≤ W.now + 12 ∧ -1 ≤ q.2.1 ∧ q.2.1 ≤ 1 ∧ 0 ≤ q.2.2 ∧ q.2.2 ≤ W.given) ∧ (∀ m, m < 8 → 0 ≤ W.food m ∧ W.food m ≤ 99) ∧ W.ways.Pairwise (fun a b => a.2.2 < b.2.2)
theorem hitN_b {s : Rck} (h : gRck s) (m l : Int) : 0 ≤ hitN s m l ∧ hitN s m l ≤ 16 := by
  have h1 := sumN_b (f := fun k => if s.2.1 k = m ∧ s.2.2 k = l then 1 else 0) (c := 1) (by omega) s.1 (fun k _ => by split <;> omega)
  have h2 := h.1
  unfold hitN
  omega
theorem X3_flagb {σ : vMem} {c : Prop} [Decidable c] : f_X3_flag σ (b01 c) = some (b01 c) := by
  unfold f_X3_flag b01
  by_cases h : c <;> simp [h]
theorem X3_flag0 {σ : vMem} : f_X3_flag σ (i32 ((0 : Nat) : Int)) = some (i32 ((0 : Nat) : Int)) := by unfold f_X3_flag; rfl
theorem X3_flag1 {σ : vMem} : f_X3_flag σ (i32 ((1 : Nat) : Int)) = some (i32 ((1 : Nat) : Int)) := by unfold f_X3_flag; rfl
theorem X3_hits {σ : vMem} {s : Rck} (h : ML σ) (hr : mRck s σ) (g : gRck s) {m l : Int} (hm1 : 0 ≤ m) (hm2 : m ≤ 1000100) (hl1 : 0 ≤ l) (hl2 : l ≤ 8) : f_X3_hitsAt σ 161 (i32 m) (i32 l) = some (i32 (hitN s m l)) := by
  have g1 := g.1
  unfold f_X3_hitsAt
  refine ok_eq ?_
  refine loop2 (F := f_X3_hitsAt_5 σ 161 (i32 m) (i32 l)) s.1 (fun k v n => n = i32 k ∧ v = i32 (sumN (fun k => if s.2.1 k = m ∧ s.2.2 k = l then 1 else 0) k)) ?_ FU 0 0 0 (by omega) ⟨rfl, rfl⟩ (by unfold FU; omega)
  rintro n k v i hk ⟨rfl, rfl⟩ IH
  rw [f_X3_hitsAt_5.eq_2]
  by_cases hc : k < s.1
  · have q := hr.2 k hc
    have q' := g.2 k hc
    simp (disch := omega) only [vl_s, bp_s, bd_s, bv_s, i32_nl, i32_n, i32_add, i32_sub, i32_mul, i32_neg, i32_ca, i32_cm, i32_cs, i32_cn, i32_le, i32_lt, i32_eq, i32_cl, Int.toNat_natCast, if_pos, if_neg, ite_true, ite_false, not_true_eq_false, not_false_eq_true, Nat.add_zero, Nat.zero_add, Nat.add_sub_cancel, ck_p, cko_c h.k (show 3 ∈ [3] by decide), dr_c h.r2, dr_c h.r9, dr_c h.r10, dr_c h.r11, dr_c h.r12, dr_c h.r13, dr_c h.r14, dr_c h.r15, dr_c h.r16, dr_c h.r21, dr_c h.r23, dr_c h.r24, dr_c h.r27, dr_c h.r28, dr_c h.r30, dr_c h.r33, dr_c h.r34, dr_c h.r36, dr_c h.r37, dr_c h.r38, dr_c h.r41, dr_c h.r43, dr_c h.r44, dr_c h.r45, dr_c h.r46, dr_c h.r47, dr_c h.r50, dr_c h.r51, dr_c h.r52, cka_i h.k162 h.l162, cka_i h.k163 h.l163, cka_i h.k164 h.l164, cka_i h.k165 h.l165, cka_i h.k166 h.l166, cka_i h.k167 h.l167, cka_i h.k168 h.l168, cka_i h.k169 h.l169, cka_i h.k170 h.l170, cka_i h.k171 h.l171, cka_i h.k172 h.l172, cka_i h.k173 h.l173, cka_i h.k174 h.l174, cka_i h.k175 h.l175, cka_i h.k176 h.l176, cka_i h.k177 h.l177, cka_i h.k178 h.l178, cka_i h.k179 h.l179, cka_i h.k180 h.l180, cka_i h.k181 h.l181, cka_i h.k182 h.l182, cka_i h.k183 h.l183, cka_i h.k184 h.l184, cka_i h.k185 h.l185, cka_i h.k186 h.l186, cka_i h.k187 h.l187, cka_i h.k188 h.l188, cka_i h.k189 h.l189, cka_i h.k190 h.l190, hr.1, q.1, q.2, X3_flag0, X3_flag1]
    by_cases c1 : s.2.1 k = m
    · by_cases c2 : s.2.2 k = l
      · rw [if_neg (by omega), if_neg (by omega)]
        exact IH hc _ _ ⟨rfl, by simp [sumN, c1, c2]⟩
      · rw [if_neg (by omega), if_pos (by omega)]
        exact IH hc _ _ ⟨rfl, by simp [sumN, c1, c2]⟩
    · rw [if_pos (by omega)]
      exact IH hc _ _ ⟨rfl, by simp [sumN, c1]⟩
  · have : k = s.1 := by omega
    subst this
    simp (disch := omega) only [vl_s, bp_s, bd_s, bv_s, i32_nl, i32_n, i32_add, i32_sub, i32_mul, i32_neg, i32_ca, i32_cm, i32_cs, i32_cn, i32_le, i32_lt, i32_eq, i32_cl, Int.toNat_natCast, if_pos, if_neg, ite_true, ite_false, not_true_eq_false, not_false_eq_true, Nat.add_zero, Nat.zero_add, Nat.add_sub_cancel, ck_p, cko_c h.k (show 3 ∈ [3] by decide), dr_c h.r2, dr_c h.r9, dr_c h.r10, dr_c h.r11, dr_c h.r12, dr_c h.r13, dr_c h.r14, dr_c h.r15, dr_c h.r16, dr_c h.r21, dr_c h.r23, dr_c h.r24, dr_c h.r27, dr_c h.r28, dr_c h.r30, dr_c h.r33, dr_c h.r34, dr_c h.r36, dr_c h.r37, dr_c h.r38, dr_c h.r41, dr_c h.r43, dr_c h.r44, dr_c h.r45, dr_c h.r46, dr_c h.r47, dr_c h.r50, dr_c h.r51, dr_c h.r52, cka_i h.k162 h.l162, cka_i h.k163 h.l163, cka_i h.k164 h.l164, cka_i h.k165 h.l165, cka_i h.k166 h.l166, cka_i h.k167 h.l167, cka_i h.k168 h.l168, cka_i h.k169 h.l169, cka_i h.k170 h.l170, cka_i h.k171 h.l171, cka_i h.k172 h.l172, cka_i h.k173 h.l173, cka_i h.k174 h.l174, cka_i h.k175 h.l175, cka_i h.k176 h.l176, cka_i h.k177 h.l177, cka_i h.k178 h.l178, cka_i h.k179 h.l179, cka_i h.k180 h.l180, cka_i h.k181 h.l181, cka_i h.k182 h.l182, cka_i h.k183 h.l183, cka_i h.k184 h.l184, cka_i h.k185 h.l185, cka_i h.k186 h.l186, cka_i h.k187 h.l187, cka_i h.k188 h.l188, cka_i h.k189 h.l189, cka_i h.k190 h.l190, hr.1]
    exact ⟨_, rfl, rfl⟩
def Wt.due (W : Wt) : Wt := (W.now, dueL W.now W.ways W.lane, W.hits, W.given, leftL W.now W.ways, W.food, W.hung)
theorem X3_doesDue {σ : vMem} {a : Nat} {W : Wt} (hk : knd σ a = 105) (hl : len σ a = 57) (h : RowIs W (gi σ a)) (hw : W.ways.length ≤ 12) (hn1 : 0 ≤ W.now) (hn2 : W.now ≤ 1000000) (hl1 : 0 ≤ W.lane) (hl2 : W.lane ≤ 8) (hq : ∀ q ∈ W.ways, 0 ≤ q.1 ∧ q.1 ≤ 1000100 ∧ -1 ≤ q.2.1 ∧ q.2.1 ≤ 1) (hm : a < mn σ) : ok (f_X3_doesDue σ a) (fun σ' => RowIs W.due (gi σ' a) ∧ Fr (fun b _ => b ≠ a) 0 0 σ σ') := by
  unfold f_X3_doesDue
  simp only [vl_s]
  refine X3_dd4 hk hl h hw hn1 hn2 hl1 hl2 hq (fun σ' F e0 e1 e2 e4 eq ef => ?_)
  have hk' : knd σ' a = 105 := by rw [F.kn hm]; exact hk
  have hl' : len σ' a = 57 := by rw [F.ln hm]; exact hl
  have hll := leftL_len W.now W.ways
  simp (disch := omega) only [vl_s, bp_s, bd_s, bv_s, i32_nl, i32_n, i32_add, i32_sub, i32_mul, i32_neg, i32_ca, i32_cm, i32_cs, i32_cn, i32_le, i32_lt, i32_eq, i32_cl, Int.toNat_natCast, if_pos, if_neg, ite_true, ite_false, not_true_eq_false, not_false_eq_true, Nat.add_zero, Nat.zero_add, Nat.add_sub_cancel, ck_p, cka_i hk' hl']
  refine ⟨_, rfl, ⟨?_, ?_, ?_, ?_, ?_, fun k q hk => ?_, fun m hm => ?_⟩, F.wi (by omega)⟩
  · simp (disch := omega) only [cko_si, cka_si, cko_sl, cka_sl, gi_e, gi_x, gl_e, gl_x, gr_si, gl_si, gi_sl, gr_sl]; exact e0
  · simp (disch := omega) only [cko_si, cka_si, cko_sl, cka_sl, gi_e, gi_x, gl_e, gl_x, gr_si, gl_si, gi_sl, gr_sl]; exact e1
  · simp (disch := omega) only [cko_si, cka_si, cko_sl, cka_sl, gi_e, gi_x, gl_e, gl_x, gr_si, gl_si, gi_sl, gr_sl]; exact e2
  · simp (disch := omega) only [cko_si, cka_si, cko_sl, cka_sl, gi_e, gi_x, gl_e, gl_x, gr_si, gl_si, gi_sl, gr_sl]; rfl
  · simp (disch := omega) only [cko_si, cka_si, cko_sl, cka_sl, gi_e, gi_x, gl_e, gl_x, gr_si, gl_si, gi_sl, gr_sl]; exact e4
  · simp (disch := omega) only [cko_si, cka_si, cko_sl, cka_sl, gi_e, gi_x, gl_e, gl_x, gr_si, gl_si, gi_sl, gr_sl]; exact eq k q hk
  · simp (disch := omega) only [cko_si, cka_si, cko_sl, cka_sl, gi_e, gi_x, gl_e, gl_x, gr_si, gl_si, gi_sl, gr_sl]
    rw [ef _ (by omega), ef _ (by omega)]
    exact h.2.2.2.2.2.2 m hm
def stepW (r : Rck) (e : Mes) (W : Wt) : Wt := (W.now + 1, dueL (W.now + 1) W.ways W.lane, W.hits + i32 (hitN r (W.now + 1) (dueL (W.now + 1) W.ways W.lane)), W.given, leftL (W.now + 1) W.ways, fun m => if m < e.1 then (if e.2.1 m ≤ W.food m then W.food m - e.2.1 m else 0) else W.food m, fun m => if m < e.1 ∧ ¬ e.2.1 m ≤ W.food m then W.hung m + 1 else W.hung m)
def hungN (e : Mes) (W : Wt) : Int := sumN (fun m => if e.2.1 m ≤ W.food m then 0 else 1) e.1
theorem X3_sg41 {σ : vMem} {a : Nat} {e : Mes} {W : Wt} (h : ML σ) (hn : 192 ≤ mn σ) (he : mMes e σ) (g : gMes e) (ha : a = 168 ∨ a = 169) (hf : ∀ m, m < 8 → gi σ a (41 + m) = i32 (W.food m) ∧ gi σ a (49 + m) = W.hung m) (gf : ∀ m, m < 8 → 0 ≤ W.food m ∧ W.food m ≤ 99) : ok (f_X3_stepGoes_41 161 a FU σ 0) (fun σ' => (∀ m, m < 8 → gi σ' a (41 + m) = i32 ((stepW (0, fun _ => 0, fun _ => 0) e W).food m) ∧ gi σ' a (49 + m) = (stepW (0, fun _ => 0, fun _ => 0) e W).hung m) ∧ gi σ' 161 32 = gi σ 161 32 + i32 (hungN e W) ∧ Fr (fun b j => ¬ (b = a ∧ 41 ≤ j) ∧ ¬ (b = 161 ∧ j = 32)) 0 0 σ σ') := by
  have g1 := g.1
  have hk : knd σ a = 105 := by rcases ha with rfl | rfl; exact h.k168; exact h.k169
  have hl : len σ a = 57 := by rcases ha with rfl | rfl; exact h.l168; exact h.l169
  refine loop2 (F := f_X3_stepGoes_41 161 a) e.1 (fun k σ1 v => v = i32 k ∧ ML σ1 ∧ mMes e σ1 ∧ (∀ m, m < 8 → gi σ1 a (41 + m) = i32 (if m < k then (if e.2.1 m ≤ W.food m then W.food m - e.2.1 m else 0) else W.food m) ∧ gi σ1 a (49 + m) = if m < k ∧ ¬ e.2.1 m ≤ W.food m then W.hung m + 1 else W.hung m) ∧ gi σ1 161 32 = gi σ 161 32 + i32 (sumN (fun m => if e.2.1 m ≤ W.food m then 0 else 1) k) ∧ Fr (fun b j => ¬ (b = a ∧ 41 ≤ j) ∧ ¬ (b = 161 ∧ j = 32)) 0 0 σ σ1) ?_ FU 0 σ 0 (by omega) ⟨rfl, h, he, fun m hm => by rw [if_neg (by omega), if_neg (by omega)]; exact hf m hm, by simp [sumN, i32], Fr.rf⟩ (by unfold FU; omega)
  rintro n k σ1 v hk2 ⟨rfl, h1, he1, hf1, h321, F1⟩ IH
  have hka : knd σ1 a = 105 := by rcases ha with rfl | rfl; exact h1.k168; exact h1.k169
  have hla : len σ1 a = 57 := by rcases ha with rfl | rfl; exact h1.l168; exact h1.l169
  rw [f_X3_stepGoes_41.eq_2]
  by_cases hc : k < e.1
  · have q := he1.2.2 k hc
    have g2 := g.2 k hc
    have f1 := hf1 k (by omega)
    have f2 := gf k (by omega)
    rw [if_neg (by omega)] at f1
    rw [if_neg (by omega)] at f1
    by_cases c1 : e.2.1 k ≤ W.food k
    · simp (disch := omega) only [vl_s, bp_s, bd_s, bv_s, i32_nl, i32_n, i32_add, i32_sub, i32_mul, i32_neg, i32_ca, i32_cm, i32_cs, i32_cn, i32_le, i32_lt, i32_eq, i32_cl, Int.toNat_natCast, if_pos, if_neg, ite_true, ite_false, not_true_eq_false, not_false_eq_true, Nat.add_zero, Nat.zero_add, Nat.add_sub_cancel, ck_p, cko_si, cka_si, cko_sl, cka_sl, gi_e, gi_x, gl_e, gl_x, gr_si, gl_si, gi_sl, gr_sl, cko_c h1.k (show 3 ∈ [3] by decide), dr_c h1.r2, dr_c h1.r9, dr_c h1.r10, dr_c h1.r11, dr_c h1.r12, dr_c h1.r13, dr_c h1.r14, dr_c h1.r15, dr_c h1.r16, dr_c h1.r21, dr_c h1.r23, dr_c h1.r24, dr_c h1.r27, dr_c h1.r28, dr_c h1.r30, dr_c h1.r33, dr_c h1.r34, dr_c h1.r36, dr_c h1.r37, dr_c h1.r38, dr_c h1.r41, dr_c h1.r43, dr_c h1.r44, dr_c h1.r45, dr_c h1.r46, dr_c h1.r47, dr_c h1.r50, dr_c h1.r51, dr_c h1.r52, cka_i h1.k162 h1.l162, cka_i h1.k163 h1.l163, cka_i h1.k164 h1.l164, cka_i h1.k165 h1.l165, cka_i h1.k166 h1.l166, cka_i h1.k167 h1.l167, cka_i h1.k168 h1.l168, cka_i h1.k169 h1.l169, cka_i h1.k170 h1.l170, cka_i h1.k171 h1.l171, cka_i h1.k172 h1.l172, cka_i h1.k173 h1.l173, cka_i h1.k174 h1.l174, cka_i h1.k175 h1.l175, cka_i h1.k176 h1.l176, cka_i h1.k177 h1.l177, cka_i h1.k178 h1.l178, cka_i h1.k179 h1.l179, cka_i h1.k180 h1.l180, cka_i h1.k181 h1.l181, cka_i h1.k182 h1.l182, cka_i h1.k183 h1.l183, cka_i h1.k184 h1.l184, cka_i h1.k185 h1.l185, cka_i h1.k186 h1.l186, cka_i h1.k187 h1.l187, cka_i h1.k188 h1.l188, cka_i h1.k189 h1.l189, cka_i h1.k190 h1.l190, cka_i hka hla, he1.1, q, f1.1, f1.2, X3_flag0, X3_flag1]
      have Fn : Fr (fun b j => ¬ (b = a ∧ 41 ≤ j) ∧ ¬ (b = 161 ∧ j = 32)) 0 0 σ1 (si (si (si σ1 a (49 + k) (W.hung k + i32 ((0 : Nat) : Int))) 161 32 (gi σ1 161 32 + i32 ((0 : Nat) : Int))) a (41 + k) (i32 (W.food k - e.2.1 k))) := ((Fr.rf.wi (by omega)).wi (by omega)).wi (by omega)
      refine IH hc _ _ ⟨rfl, ?_, ?_, fun m hm => ?_, ?_, F1.tr0 Fn⟩
      · exact h1
      · unfold mMes
        simp (disch := omega) only [cko_si, cka_si, cko_sl, cka_sl, gi_e, gi_x, gl_e, gl_x, gr_si, gl_si, gi_sl, gr_sl]
        exact he1
      · have f3 := hf1 m hm
        by_cases hmk : m = k
        · subst hmk
          simp (disch := omega) only [cko_si, cka_si, cko_sl, cka_sl, gi_e, gi_x, gl_e, gl_x, gr_si, gl_si, gi_sl, gr_sl, if_pos, if_neg]
          refine ⟨trivial, ?_⟩
          simp [i32]
        · simp (disch := omega) only [cko_si, cka_si, cko_sl, cka_sl, gi_e, gi_x, gl_e, gl_x, gr_si, gl_si, gi_sl, gr_sl]
          have hm3 : m < k + 1 ↔ m < k := by omega
          simp only [hm3, f3.1, f3.2]
          refine ⟨?_, ?_⟩ <;> first | trivial | rfl
      · simp (disch := omega) only [cko_si, cka_si, cko_sl, cka_sl, gi_e, gi_x, gl_e, gl_x, gr_si, gl_si, gi_sl, gr_sl]
        rw [h321]
        simp [sumN, c1, i32]
    · simp (disch := omega) only [vl_s, bp_s, bd_s, bv_s, i32_nl, i32_n, i32_add, i32_sub, i32_mul, i32_neg, i32_ca, i32_cm, i32_cs, i32_cn, i32_le, i32_lt, i32_eq, i32_cl, Int.toNat_natCast, if_pos, if_neg, ite_true, ite_false, not_true_eq_false, not_false_eq_true, Nat.add_zero, Nat.zero_add, Nat.add_sub_cancel, ck_p, cko_si, cka_si, cko_sl, cka_sl, gi_e, gi_x, gl_e, gl_x, gr_si, gl_si, gi_sl, gr_sl, cko_c h1.k (show 3 ∈ [3] by decide), dr_c h1.r2, dr_c h1.r9, dr_c h1.r10, dr_c h1.r11, dr_c h1.r12, dr_c h1.r13, dr_c h1.r14, dr_c h1.r15, dr_c h1.r16, dr_c h1.r21, dr_c h1.r23, dr_c h1.r24, dr_c h1.r27, dr_c h1.r28, dr_c h1.r30, dr_c h1.r33, dr_c h1.r34, dr_c h1.r36, dr_c h1.r37, dr_c h1.r38, dr_c h1.r41, dr_c h1.r43, dr_c h1.r44, dr_c h1.r45, dr_c h1.r46, dr_c h1.r47, dr_c h1.r50, dr_c h1.r51, dr_c h1.r52, cka_i h1.k162 h1.l162, cka_i h1.k163 h1.l163, cka_i h1.k164 h1.l164, cka_i h1.k165 h1.l165, cka_i h1.k166 h1.l166, cka_i h1.k167 h1.l167, cka_i h1.k168 h1.l168, cka_i h1.k169 h1.l169, cka_i h1.k170 h1.l170, cka_i h1.k171 h1.l171, cka_i h1.k172 h1.l172, cka_i h1.k173 h1.l173, cka_i h1.k174 h1.l174, cka_i h1.k175 h1.l175, cka_i h1.k176 h1.l176, cka_i h1.k177 h1.l177, cka_i h1.k178 h1.l178, cka_i h1.k179 h1.l179, cka_i h1.k180 h1.l180, cka_i h1.k181 h1.l181, cka_i h1.k182 h1.l182, cka_i h1.k183 h1.l183, cka_i h1.k184 h1.l184, cka_i h1.k185 h1.l185, cka_i h1.k186 h1.l186, cka_i h1.k187 h1.l187, cka_i h1.k188 h1.l188, cka_i h1.k189 h1.l189, cka_i h1.k190 h1.l190, cka_i hka hla, he1.1, q, f1.1, f1.2, X3_flag0, X3_flag1]
      have Fn : Fr (fun b j => ¬ (b = a ∧ 41 ≤ j) ∧ ¬ (b = 161 ∧ j = 32)) 0 0 σ1 (si (si (si σ1 a (49 + k) (W.hung k + i32 ((1 : Nat) : Int))) 161 32 (gi σ1 161 32 + i32 ((1 : Nat) : Int))) a (41 + k) (i32 ((0 : Nat) : Int))) := ((Fr.rf.wi (by omega)).wi (by omega)).wi (by omega)
      refine IH hc _ _ ⟨rfl, ?_, ?_, fun m hm => ?_, ?_, F1.tr0 Fn⟩
      · exact h1
      · unfold mMes
        simp (disch := omega) only [cko_si, cka_si, cko_sl, cka_sl, gi_e, gi_x, gl_e, gl_x, gr_si, gl_si, gi_sl, gr_sl]
        exact he1
      · have f3 := hf1 m hm
        by_cases hmk : m = k
        · subst hmk
          simp (disch := omega) only [cko_si, cka_si, cko_sl, cka_sl, gi_e, gi_x, gl_e, gl_x, gr_si, gl_si, gi_sl, gr_sl, if_pos, if_neg]
          exact ⟨rfl, rfl⟩
        · simp (disch := omega) only [cko_si, cka_si, cko_sl, cka_sl, gi_e, gi_x, gl_e, gl_x, gr_si, gl_si, gi_sl, gr_sl]
          have hm3 : m < k + 1 ↔ m < k := by omega
          simp only [hm3, f3.1, f3.2]
          refine ⟨?_, ?_⟩ <;> first | trivial | rfl
      · simp (disch := omega) only [cko_si, cka_si, cko_sl, cka_sl, gi_e, gi_x, gl_e, gl_x, gr_si, gl_si, gi_sl, gr_sl]
        rw [h321, show sumN (fun m => if e.2.1 m ≤ W.food m then 0 else 1) (k + 1) = sumN (fun m => if e.2.1 m ≤ W.food m then 0 else 1) k + 1 by simp [sumN, c1], ← i32_add, Int32.add_assoc]
        rfl
  · have : k = e.1 := by omega
    subst this
    simp (disch := omega) only [vl_s, bp_s, bd_s, bv_s, i32_nl, i32_n, i32_add, i32_sub, i32_mul, i32_neg, i32_ca, i32_cm, i32_cs, i32_cn, i32_le, i32_lt, i32_eq, i32_cl, Int.toNat_natCast, if_pos, if_neg, ite_true, ite_false, not_true_eq_false, not_false_eq_true, Nat.add_zero, Nat.zero_add, Nat.add_sub_cancel, ck_p, cko_c h1.k (show 3 ∈ [3] by decide), dr_c h1.r2, dr_c h1.r9, dr_c h1.r10, dr_c h1.r11, dr_c h1.r12, dr_c h1.r13, dr_c h1.r14, dr_c h1.r15, dr_c h1.r16, dr_c h1.r21, dr_c h1.r23, dr_c h1.r24, dr_c h1.r27, dr_c h1.r28, dr_c h1.r30, dr_c h1.r33, dr_c h1.r34, dr_c h1.r36, dr_c h1.r37, dr_c h1.r38, dr_c h1.r41, dr_c h1.r43, dr_c h1.r44, dr_c h1.r45, dr_c h1.r46, dr_c h1.r47, dr_c h1.r50, dr_c h1.r51, dr_c h1.r52, cka_i h1.k162 h1.l162, cka_i h1.k163 h1.l163, cka_i h1.k164 h1.l164, cka_i h1.k165 h1.l165, cka_i h1.k166 h1.l166, cka_i h1.k167 h1.l167, cka_i h1.k168 h1.l168, cka_i h1.k169 h1.l169, cka_i h1.k170 h1.l170, cka_i h1.k171 h1.l171, cka_i h1.k172 h1.l172, cka_i h1.k173 h1.l173, cka_i h1.k174 h1.l174, cka_i h1.k175 h1.l175, cka_i h1.k176 h1.l176, cka_i h1.k177 h1.l177, cka_i h1.k178 h1.l178, cka_i h1.k179 h1.l179, cka_i h1.k180 h1.l180, cka_i h1.k181 h1.l181, cka_i h1.k182 h1.l182, cka_i h1.k183 h1.l183, cka_i h1.k184 h1.l184, cka_i h1.k185 h1.l185, cka_i h1.k186 h1.l186, cka_i h1.k187 h1.l187, cka_i h1.k188 h1.l188, cka_i h1.k189 h1.l189, cka_i h1.k190 h1.l190, he1.1]
    exact ⟨_, rfl, hf1, h321, F1⟩
