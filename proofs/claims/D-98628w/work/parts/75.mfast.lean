/-! THE MODEL'S ACTS: fasting -/
set_option maxRecDepth 100000
def pcI (b : Int) : Int := if b < 0 then 32 else popc 10 b.toNat
theorem popc_b : ∀ (n b : Nat), popc n b ≤ n
  | 0, _ => Nat.le_refl _
  | n + 1, b => by
    have := popc_b n (b / 2)
    have h := Nat.mod_lt b (show 0 < 2 by decide)
    show b % 2 + popc n (b / 2) ≤ n + 1
    omega
theorem pcI_b (b : Int) : 0 ≤ pcI b ∧ pcI b ≤ 32 := by
  have := popc_b 10 b.toNat
  unfold pcI
  split <;> omega
theorem bc_i {σ : vMem} {b : Int} (h1 : -1 ≤ b) (h2 : b < 1024) : f_J7_bitCount σ (i32 b) = some (i32 (pcI b)) := by
  unfold pcI
  by_cases c : b < 0
  · have e : b = -1 := by omega
    subst e
    rw [if_pos (by decide)]
    exact (bitCount_any σ σ0 _).trans (by decide +kernel)
  · obtain ⟨k, rfl⟩ : ∃ k : Nat, b = k := ⟨b.toNat, by omega⟩
    rw [if_neg c, Int.toNat_natCast, ← i32_n, ← i32_n]
    exact bitCount (by omega)
def inS (set m : Nat) : Bool := decide (set / 2 ^ m % 2 = 1)
theorem has_256 : ∀ b, b < 1024 → ∀ k, k < 10 → f_X3_has σ0 (Int32.ofNat b) (Int32.ofNat k) = some (if inS b k then 1 else 0) := by
  unfold inS
  decide +kernel
theorem X3_has {σ : vMem} {b k : Nat} (h1 : b < 1024) (h2 : k < 10) : f_X3_has σ (i32 b) (i32 k) = some (if inS b k then i32 ((1 : Nat) : Int) else i32 ((0 : Nat) : Int)) := by
  rw [← i32_n, ← i32_n]
  exact has_256 b h1 k h2
def needF (S : St) (n : Int) (set : Nat) : Nat → Int := sumN (fun m => if inS set m then 0 else n * S.mes.2.1 m)
theorem needF_b {S : St} {n : Int} {set m : Nat} (g : gMes S.mes) (h0 : 0 ≤ n) (h1 : n ≤ 99) (hm : m ≤ S.mes.1) : 0 ≤ needF S n set m ∧ needF S n set m ≤ 891 * m := by
  refine sumN_b (by omega) m (fun k hk => ?_)
  have ge := g.2 k (by omega)
  have p0 : 0 ≤ n * S.mes.2.1 k := Int.mul_nonneg h0 ge.1
  have p1 : n * S.mes.2.1 k ≤ 99 * 9 := Int.mul_le_mul h1 ge.2 ge.1 (by omega)
  split <;> omega
/-- of the first sets: which must fast at the least; what is left -/
def fsM (S : St) (n : Int) : Nat → Int × Int
  | 0 => (-1, 0)
  | set + 1 => let q := fsM S n set
    if 0 ≤ foodF S 0 S.mes.1 - needF S n set S.mes.1 ∧ (q.1 < 0 ∨ pcI set < pcI q.1) then ((set : Int), foodF S 0 S.mes.1 - needF S n set S.mes.1) else q
theorem fsM_b (S : St) (n : Int) : ∀ set : Nat, -1 ≤ (fsM S n set).1 ∧ (fsM S n set).1 < set ∨ (fsM S n set).1 = -1
  | 0 => Or.inr rfl
  | set + 1 => by
    have ih := fsM_b S n set
    unfold fsM
    dsimp only
    split
    · exact Or.inl ⟨by show (-1 : Int) ≤ (set : Int); omega, by show (set : Int) < ((set + 1 : Nat) : Int); omega⟩
    · omega
def aFast (S : St) (n : Int) : Int := if (0 ≤ n ∧ n ≤ 99) ∧ S.mes.1 ≠ 0 then (fsM S n (2 ^ S.mes.1)).1 else -1
def nFast (S : St) (n : Int) : St := if (0 ≤ n ∧ n ≤ 99) ∧ S.mes.1 ≠ 0 then rowA (rowA (row0 S) (Int32.toInt64 (i32 (pcI (fsM S n (2 ^ S.mes.1)).1)))) (Int32.toInt64 (i32 (fsM S n (2 ^ S.mes.1)).2)) else S
theorem shl_M : ∀ k, k ≤ 8 → (1 : Int32) <<< (Int32.ofNat k &&& 31) = Int32.ofNat (2 ^ k) := by decide +kernel
theorem pow_M : ∀ k, k ≤ 8 → 2 ^ k ≤ 256 := by decide
theorem M_fast81 {S : St} {σ : vMem} {n : Int} {set : Nat} {v2 v3 v4 : Int32} {K : Int32 → Option (Int32 × vMem)} {Q : Int32 × vMem → Prop} (h : RM S σ) (g : gMes S.mes) (h0 : 0 ≤ n) (h1 : n ≤ 99) (hs : set < 256) {food : Int} (hf : v2 = i32 food) (hK : ok (K (i32 (food - needF S n set S.mes.1))) Q) : ok (f_X3_fast_81 161 (i32 n) σ v2 v3 v4 (i32 set) K FU v2 (i32 ((0 : Nat) : Int))) Q := by
  subst hf
  have hm := h.ml
  have g8 := g.1
  have e7 := h.mes.1
  refine loop2 (F := f_X3_fast_81 161 (i32 n) σ (i32 food) v3 v4 (i32 set) K) S.mes.1 (fun m a x => x = i32 m ∧ a = i32 (food - needF S n set m)) ?_ FU 0 _ _ (by omega) ⟨rfl, by show i32 food = i32 (food - 0); rw [Int.sub_zero]⟩ (by unfold FU; omega)
  rintro k m a x hm2 ⟨rfl, rfl⟩ IH
  rw [f_X3_fast_81.eq_2]
  by_cases d : m < S.mes.1
  · have hh := X3_has (σ := σ) (b := set) (k := m) (by omega) (by omega)
    have e1 := h.mes.2.2 m d
    have en : needF S n set (m + 1) = needF S n set m + if inS set m then 0 else n * S.mes.2.1 m := rfl
    cases hq : inS set m with
    | true =>
      rw [hq] at hh en
      simp only [if_true] at hh en
      (try simp (disch := omega) only [vl_s, bp_s, bd_s, bv_s, i32_nl, i32_n, i32_add, i32_sub, i32_mul, i32_neg, i32_ca, i32_cm, i32_cs, i32_cn, i32_le, i32_lt, i32_eq, i32_cl, Int.toNat_natCast, if_pos, if_neg, ite_true, ite_false, not_true_eq_false, not_false_eq_true, Nat.add_zero, Nat.zero_add, Nat.add_sub_cancel, ck_p, cko_si, cka_si, cko_sl, cka_sl, gi_e, gi_x, gl_e, gl_x, gr_si, gl_si, gi_sl, gr_sl, cko_c hm.k (show 3 ∈ [3] by decide), dr_c hm.r2, dr_c hm.r9, dr_c hm.r10, dr_c hm.r11, dr_c hm.r12, dr_c hm.r13, dr_c hm.r14, dr_c hm.r15, dr_c hm.r16, dr_c hm.r21, dr_c hm.r23, dr_c hm.r24, dr_c hm.r27, dr_c hm.r28, dr_c hm.r30, dr_c hm.r33, dr_c hm.r34, dr_c hm.r36, dr_c hm.r37, dr_c hm.r38, dr_c hm.r41, dr_c hm.r43, dr_c hm.r44, dr_c hm.r45, dr_c hm.r46, dr_c hm.r47, dr_c hm.r50, dr_c hm.r51, dr_c hm.r52, cka_i hm.k162 hm.l162, cka_i hm.k163 hm.l163, cka_i hm.k164 hm.l164, cka_i hm.k165 hm.l165, cka_i hm.k166 hm.l166, cka_i hm.k167 hm.l167, cka_i hm.k168 hm.l168, cka_i hm.k169 hm.l169, cka_i hm.k170 hm.l170, cka_i hm.k171 hm.l171, cka_i hm.k172 hm.l172, cka_i hm.k173 hm.l173, cka_i hm.k174 hm.l174, cka_i hm.k175 hm.l175, cka_i hm.k176 hm.l176, cka_i hm.k177 hm.l177, cka_i hm.k178 hm.l178, cka_i hm.k179 hm.l179, cka_i hm.k180 hm.l180, cka_i hm.k181 hm.l181, cka_i hm.k182 hm.l182, cka_i hm.k183 hm.l183, cka_i hm.k184 hm.l184, cka_i hm.k185 hm.l185, cka_i hm.k186 hm.l186, cka_i hm.k187 hm.l187, cka_i hm.k188 hm.l188, cka_i hm.k189 hm.l189, cka_i hm.k190 hm.l190, e7, hh])
      exact IH d _ _ ⟨rfl, by rw [en]; congr 1; omega⟩
    | false =>
      rw [hq] at hh en
      simp only [Bool.false_eq_true, if_false] at hh en
      (try simp (disch := omega) only [vl_s, bp_s, bd_s, bv_s, i32_nl, i32_n, i32_add, i32_sub, i32_mul, i32_neg, i32_ca, i32_cm, i32_cs, i32_cn, i32_le, i32_lt, i32_eq, i32_cl, Int.toNat_natCast, if_pos, if_neg, ite_true, ite_false, not_true_eq_false, not_false_eq_true, Nat.add_zero, Nat.zero_add, Nat.add_sub_cancel, ck_p, cko_si, cka_si, cko_sl, cka_sl, gi_e, gi_x, gl_e, gl_x, gr_si, gl_si, gi_sl, gr_sl, cko_c hm.k (show 3 ∈ [3] by decide), dr_c hm.r2, dr_c hm.r9, dr_c hm.r10, dr_c hm.r11, dr_c hm.r12, dr_c hm.r13, dr_c hm.r14, dr_c hm.r15, dr_c hm.r16, dr_c hm.r21, dr_c hm.r23, dr_c hm.r24, dr_c hm.r27, dr_c hm.r28, dr_c hm.r30, dr_c hm.r33, dr_c hm.r34, dr_c hm.r36, dr_c hm.r37, dr_c hm.r38, dr_c hm.r41, dr_c hm.r43, dr_c hm.r44, dr_c hm.r45, dr_c hm.r46, dr_c hm.r47, dr_c hm.r50, dr_c hm.r51, dr_c hm.r52, cka_i hm.k162 hm.l162, cka_i hm.k163 hm.l163, cka_i hm.k164 hm.l164, cka_i hm.k165 hm.l165, cka_i hm.k166 hm.l166, cka_i hm.k167 hm.l167, cka_i hm.k168 hm.l168, cka_i hm.k169 hm.l169, cka_i hm.k170 hm.l170, cka_i hm.k171 hm.l171, cka_i hm.k172 hm.l172, cka_i hm.k173 hm.l173, cka_i hm.k174 hm.l174, cka_i hm.k175 hm.l175, cka_i hm.k176 hm.l176, cka_i hm.k177 hm.l177, cka_i hm.k178 hm.l178, cka_i hm.k179 hm.l179, cka_i hm.k180 hm.l180, cka_i hm.k181 hm.l181, cka_i hm.k182 hm.l182, cka_i hm.k183 hm.l183, cka_i hm.k184 hm.l184, cka_i hm.k185 hm.l185, cka_i hm.k186 hm.l186, cka_i hm.k187 hm.l187, cka_i hm.k188 hm.l188, cka_i hm.k189 hm.l189, cka_i hm.k190 hm.l190, e7, hh, e1])
      exact IH d _ _ ⟨rfl, by rw [en]; congr 1; omega⟩
  · have : m = S.mes.1 := by omega
    subst this
    (try simp (disch := omega) only [vl_s, bp_s, bd_s, bv_s, i32_nl, i32_n, i32_add, i32_sub, i32_mul, i32_neg, i32_ca, i32_cm, i32_cs, i32_cn, i32_le, i32_lt, i32_eq, i32_cl, Int.toNat_natCast, if_pos, if_neg, ite_true, ite_false, not_true_eq_false, not_false_eq_true, Nat.add_zero, Nat.zero_add, Nat.add_sub_cancel, ck_p, cko_si, cka_si, cko_sl, cka_sl, gi_e, gi_x, gl_e, gl_x, gr_si, gl_si, gi_sl, gr_sl, cko_c hm.k (show 3 ∈ [3] by decide), dr_c hm.r2, dr_c hm.r9, dr_c hm.r10, dr_c hm.r11, dr_c hm.r12, dr_c hm.r13, dr_c hm.r14, dr_c hm.r15, dr_c hm.r16, dr_c hm.r21, dr_c hm.r23, dr_c hm.r24, dr_c hm.r27, dr_c hm.r28, dr_c hm.r30, dr_c hm.r33, dr_c hm.r34, dr_c hm.r36, dr_c hm.r37, dr_c hm.r38, dr_c hm.r41, dr_c hm.r43, dr_c hm.r44, dr_c hm.r45, dr_c hm.r46, dr_c hm.r47, dr_c hm.r50, dr_c hm.r51, dr_c hm.r52, cka_i hm.k162 hm.l162, cka_i hm.k163 hm.l163, cka_i hm.k164 hm.l164, cka_i hm.k165 hm.l165, cka_i hm.k166 hm.l166, cka_i hm.k167 hm.l167, cka_i hm.k168 hm.l168, cka_i hm.k169 hm.l169, cka_i hm.k170 hm.l170, cka_i hm.k171 hm.l171, cka_i hm.k172 hm.l172, cka_i hm.k173 hm.l173, cka_i hm.k174 hm.l174, cka_i hm.k175 hm.l175, cka_i hm.k176 hm.l176, cka_i hm.k177 hm.l177, cka_i hm.k178 hm.l178, cka_i hm.k179 hm.l179, cka_i hm.k180 hm.l180, cka_i hm.k181 hm.l181, cka_i hm.k182 hm.l182, cka_i hm.k183 hm.l183, cka_i hm.k184 hm.l184, cka_i hm.k185 hm.l185, cka_i hm.k186 hm.l186, cka_i hm.k187 hm.l187, cka_i hm.k188 hm.l188, cka_i hm.k189 hm.l189, cka_i hm.k190 hm.l190, e7])
    exact hK
theorem M_fast {S : St} {σ : vMem} {B n : Int} (h : RM S σ) (g : gSt B S) (h1 : -2147483648 ≤ n) (h2 : n < 2147483648) : ok (f_X3_fast σ 161 (i32 n)) (fun r => r.1 = i32 (aFast S n) ∧ RM (nFast S n) r.2 ∧ FM σ r.2) := by
  have hm := h.ml
  have q0 := M_thrown h (i32 ((0 : Nat) : Int))
  have e7 := h.mes.1
  have g8 := g.mes.1
  generalize hQ : (fun r : Int32 × vMem => r.1 = i32 (aFast S n) ∧ RM (nFast S n) r.2 ∧ FM σ r.2) = Q
  have no : ¬ ((0 ≤ n ∧ n ≤ 99) ∧ S.mes.1 ≠ 0) → ok (some (i32 (-1), si σ 161 0 (i32 ((0 : Nat) : Int)))) Q := fun c => by
    rw [← hQ]
    unfold aFast nFast
    rw [if_neg c, if_neg c]
    exact ok_some ⟨rfl, q0, FM_thrown⟩
  unfold f_X3_fast
  by_cases c1 : 0 ≤ n ∧ n ≤ 99
  · by_cases c2 : S.mes.1 = 0
    · (try simp (disch := omega) only [vl_s, bp_s, bd_s, bv_s, i32_nl, i32_n, i32_add, i32_sub, i32_mul, i32_neg, i32_ca, i32_cm, i32_cs, i32_cn, i32_le, i32_lt, i32_eq, i32_cl, Int.toNat_natCast, if_pos, if_neg, ite_true, ite_false, not_true_eq_false, not_false_eq_true, Nat.add_zero, Nat.zero_add, Nat.add_sub_cancel, ck_p, cko_si, cka_si, cko_sl, cka_sl, gi_e, gi_x, gl_e, gl_x, gr_si, gl_si, gi_sl, gr_sl, cko_c hm.k (show 3 ∈ [3] by decide), dr_c hm.r2, dr_c hm.r9, dr_c hm.r10, dr_c hm.r11, dr_c hm.r12, dr_c hm.r13, dr_c hm.r14, dr_c hm.r15, dr_c hm.r16, dr_c hm.r21, dr_c hm.r23, dr_c hm.r24, dr_c hm.r27, dr_c hm.r28, dr_c hm.r30, dr_c hm.r33, dr_c hm.r34, dr_c hm.r36, dr_c hm.r37, dr_c hm.r38, dr_c hm.r41, dr_c hm.r43, dr_c hm.r44, dr_c hm.r45, dr_c hm.r46, dr_c hm.r47, dr_c hm.r50, dr_c hm.r51, dr_c hm.r52, cka_i hm.k162 hm.l162, cka_i hm.k163 hm.l163, cka_i hm.k164 hm.l164, cka_i hm.k165 hm.l165, cka_i hm.k166 hm.l166, cka_i hm.k167 hm.l167, cka_i hm.k168 hm.l168, cka_i hm.k169 hm.l169, cka_i hm.k170 hm.l170, cka_i hm.k171 hm.l171, cka_i hm.k172 hm.l172, cka_i hm.k173 hm.l173, cka_i hm.k174 hm.l174, cka_i hm.k175 hm.l175, cka_i hm.k176 hm.l176, cka_i hm.k177 hm.l177, cka_i hm.k178 hm.l178, cka_i hm.k179 hm.l179, cka_i hm.k180 hm.l180, cka_i hm.k181 hm.l181, cka_i hm.k182 hm.l182, cka_i hm.k183 hm.l183, cka_i hm.k184 hm.l184, cka_i hm.k185 hm.l185, cka_i hm.k186 hm.l186, cka_i hm.k187 hm.l187, cka_i hm.k188 hm.l188, cka_i hm.k189 hm.l189, cka_i hm.k190 hm.l190, X3_inI, X1_inI, i32_64, b01_i0, b01_i1, i64_m1, i64_0, i64_1, i64_2, i64_3, i64_8, i64_9, i64_10, i64_12, i64_15, i64_18, i64_20, i64_24, i64_30, i64_39, i64_48, i64_57, i64_60, i64_99, i64_100, i64_999, i64_99999, e7])
      exact no (fun q => q.2 c2)
    · have fb := fun m (hm : m ≤ 8) => foodF_b (f := 0) (n := m) g (by omega)
      have p2 := pow_M S.mes.1 g8
      have shl : (1 : Int32) <<< (i32 S.mes.1 &&& 31) = i32 (2 ^ S.mes.1 : Nat) := by rw [← i32_n, ← i32_n]; exact shl_M _ g8
      generalize hP : 2 ^ S.mes.1 = P at p2 shl
      (try simp (disch := omega) only [vl_s, bp_s, bd_s, bv_s, i32_nl, i32_n, i32_add, i32_sub, i32_mul, i32_neg, i32_ca, i32_cm, i32_cs, i32_cn, i32_le, i32_lt, i32_eq, i32_cl, Int.toNat_natCast, if_pos, if_neg, ite_true, ite_false, not_true_eq_false, not_false_eq_true, Nat.add_zero, Nat.zero_add, Nat.add_sub_cancel, ck_p, cko_si, cka_si, cko_sl, cka_sl, gi_e, gi_x, gl_e, gl_x, gr_si, gl_si, gi_sl, gr_sl, cko_c hm.k (show 3 ∈ [3] by decide), dr_c hm.r2, dr_c hm.r9, dr_c hm.r10, dr_c hm.r11, dr_c hm.r12, dr_c hm.r13, dr_c hm.r14, dr_c hm.r15, dr_c hm.r16, dr_c hm.r21, dr_c hm.r23, dr_c hm.r24, dr_c hm.r27, dr_c hm.r28, dr_c hm.r30, dr_c hm.r33, dr_c hm.r34, dr_c hm.r36, dr_c hm.r37, dr_c hm.r38, dr_c hm.r41, dr_c hm.r43, dr_c hm.r44, dr_c hm.r45, dr_c hm.r46, dr_c hm.r47, dr_c hm.r50, dr_c hm.r51, dr_c hm.r52, cka_i hm.k162 hm.l162, cka_i hm.k163 hm.l163, cka_i hm.k164 hm.l164, cka_i hm.k165 hm.l165, cka_i hm.k166 hm.l166, cka_i hm.k167 hm.l167, cka_i hm.k168 hm.l168, cka_i hm.k169 hm.l169, cka_i hm.k170 hm.l170, cka_i hm.k171 hm.l171, cka_i hm.k172 hm.l172, cka_i hm.k173 hm.l173, cka_i hm.k174 hm.l174, cka_i hm.k175 hm.l175, cka_i hm.k176 hm.l176, cka_i hm.k177 hm.l177, cka_i hm.k178 hm.l178, cka_i hm.k179 hm.l179, cka_i hm.k180 hm.l180, cka_i hm.k181 hm.l181, cka_i hm.k182 hm.l182, cka_i hm.k183 hm.l183, cka_i hm.k184 hm.l184, cka_i hm.k185 hm.l185, cka_i hm.k186 hm.l186, cka_i hm.k187 hm.l187, cka_i hm.k188 hm.l188, cka_i hm.k189 hm.l189, cka_i hm.k190 hm.l190, X3_inI, X1_inI, i32_64, b01_i0, b01_i1, i64_m1, i64_0, i64_1, i64_2, i64_3, i64_8, i64_9, i64_10, i64_12, i64_15, i64_18, i64_20, i64_24, i64_30, i64_39, i64_48, i64_57, i64_60, i64_99, i64_100, i64_999, i64_99999, e7])
      refine loop2 (F := f_X3_fast_30 161 (i32 n) (si σ 161 0 (i32 ((0 : Nat) : Int))) _) S.mes.1 (fun m a x => x = i32 m ∧ a = i32 (foodF S 0 m)) ?_ FU 0 _ _ (by omega) ⟨rfl, rfl⟩ (by unfold FU; omega)
      rintro k m a x hm2 ⟨rfl, rfl⟩ IH
      rw [f_X3_fast_30.eq_2]
      by_cases d : m < S.mes.1
      · have e1 := (h.now.2.2.2.2.2.2 m (by omega)).1
        (try simp (disch := omega) only [vl_s, bp_s, bd_s, bv_s, i32_nl, i32_n, i32_add, i32_sub, i32_mul, i32_neg, i32_ca, i32_cm, i32_cs, i32_cn, i32_le, i32_lt, i32_eq, i32_cl, Int.toNat_natCast, if_pos, if_neg, ite_true, ite_false, not_true_eq_false, not_false_eq_true, Nat.add_zero, Nat.zero_add, Nat.add_sub_cancel, ck_p, cko_si, cka_si, cko_sl, cka_sl, gi_e, gi_x, gl_e, gl_x, gr_si, gl_si, gi_sl, gr_sl, cko_c hm.k (show 3 ∈ [3] by decide), dr_c hm.r2, dr_c hm.r9, dr_c hm.r10, dr_c hm.r11, dr_c hm.r12, dr_c hm.r13, dr_c hm.r14, dr_c hm.r15, dr_c hm.r16, dr_c hm.r21, dr_c hm.r23, dr_c hm.r24, dr_c hm.r27, dr_c hm.r28, dr_c hm.r30, dr_c hm.r33, dr_c hm.r34, dr_c hm.r36, dr_c hm.r37, dr_c hm.r38, dr_c hm.r41, dr_c hm.r43, dr_c hm.r44, dr_c hm.r45, dr_c hm.r46, dr_c hm.r47, dr_c hm.r50, dr_c hm.r51, dr_c hm.r52, cka_i hm.k162 hm.l162, cka_i hm.k163 hm.l163, cka_i hm.k164 hm.l164, cka_i hm.k165 hm.l165, cka_i hm.k166 hm.l166, cka_i hm.k167 hm.l167, cka_i hm.k168 hm.l168, cka_i hm.k169 hm.l169, cka_i hm.k170 hm.l170, cka_i hm.k171 hm.l171, cka_i hm.k172 hm.l172, cka_i hm.k173 hm.l173, cka_i hm.k174 hm.l174, cka_i hm.k175 hm.l175, cka_i hm.k176 hm.l176, cka_i hm.k177 hm.l177, cka_i hm.k178 hm.l178, cka_i hm.k179 hm.l179, cka_i hm.k180 hm.l180, cka_i hm.k181 hm.l181, cka_i hm.k182 hm.l182, cka_i hm.k183 hm.l183, cka_i hm.k184 hm.l184, cka_i hm.k185 hm.l185, cka_i hm.k186 hm.l186, cka_i hm.k187 hm.l187, cka_i hm.k188 hm.l188, cka_i hm.k189 hm.l189, cka_i hm.k190 hm.l190, e7, e1])
        refine IH d _ _ ⟨rfl, ?_⟩
        show _ = i32 (foodF S 0 m + S.now.food (0 + m))
        rw [Nat.zero_add]
      · have : m = S.mes.1 := by omega
        subst this
        have fbM := fb S.mes.1 g8
        (try simp (disch := omega) only [vl_s, bp_s, bd_s, bv_s, i32_nl, i32_n, i32_add, i32_sub, i32_mul, i32_neg, i32_ca, i32_cm, i32_cs, i32_cn, i32_le, i32_lt, i32_eq, i32_cl, Int.toNat_natCast, if_pos, if_neg, ite_true, ite_false, not_true_eq_false, not_false_eq_true, Nat.add_zero, Nat.zero_add, Nat.add_sub_cancel, ck_p, cko_si, cka_si, cko_sl, cka_sl, gi_e, gi_x, gl_e, gl_x, gr_si, gl_si, gi_sl, gr_sl, cko_c hm.k (show 3 ∈ [3] by decide), dr_c hm.r2, dr_c hm.r9, dr_c hm.r10, dr_c hm.r11, dr_c hm.r12, dr_c hm.r13, dr_c hm.r14, dr_c hm.r15, dr_c hm.r16, dr_c hm.r21, dr_c hm.r23, dr_c hm.r24, dr_c hm.r27, dr_c hm.r28, dr_c hm.r30, dr_c hm.r33, dr_c hm.r34, dr_c hm.r36, dr_c hm.r37, dr_c hm.r38, dr_c hm.r41, dr_c hm.r43, dr_c hm.r44, dr_c hm.r45, dr_c hm.r46, dr_c hm.r47, dr_c hm.r50, dr_c hm.r51, dr_c hm.r52, cka_i hm.k162 hm.l162, cka_i hm.k163 hm.l163, cka_i hm.k164 hm.l164, cka_i hm.k165 hm.l165, cka_i hm.k166 hm.l166, cka_i hm.k167 hm.l167, cka_i hm.k168 hm.l168, cka_i hm.k169 hm.l169, cka_i hm.k170 hm.l170, cka_i hm.k171 hm.l171, cka_i hm.k172 hm.l172, cka_i hm.k173 hm.l173, cka_i hm.k174 hm.l174, cka_i hm.k175 hm.l175, cka_i hm.k176 hm.l176, cka_i hm.k177 hm.l177, cka_i hm.k178 hm.l178, cka_i hm.k179 hm.l179, cka_i hm.k180 hm.l180, cka_i hm.k181 hm.l181, cka_i hm.k182 hm.l182, cka_i hm.k183 hm.l183, cka_i hm.k184 hm.l184, cka_i hm.k185 hm.l185, cka_i hm.k186 hm.l186, cka_i hm.k187 hm.l187, cka_i hm.k188 hm.l188, cka_i hm.k189 hm.l189, cka_i hm.k190 hm.l190, e7])
        refine loop3 (F := f_X3_fast_64 161 (i32 n) (si σ 161 0 (i32 ((0 : Nat) : Int))) (i32 (foodF S 0 S.mes.1)) _) (P) (fun set a b x => x = i32 set ∧ a = i32 (fsM S n set).1 ∧ b = i32 (fsM S n set).2) ?_ FU 0 _ _ _ (by omega) ⟨rfl, rfl, rfl⟩ (by unfold FU; omega)
        rintro k2 set a b x hs ⟨rfl, rfl, rfl⟩ IH2
        have fsb := fsM_b S n set
        rw [f_X3_fast_64.eq_2]
        by_cases d2 : set < P
        · have e7' : gi (si σ 161 0 (i32 ((0 : Nat) : Int))) 161 7 = i32 S.mes.1 := by rw [gi_x (by omega)]; exact e7
          rw [e7', shl, cko_si, cko_c hm.k (by decide), if_neg (by rw [i32_le (by omega) (by omega) (by omega) (by omega)]; omega)]
          simp only [vl_s]
          refine M_fast81 q0 g.mes c1.1 c1.2 (by omega) rfl ?_
          have nb := needF_b (n := n) (set := set) (m := S.mes.1) g.mes c1.1 c1.2 (Nat.le_refl _)
          have b1 := bc_i (σ := si σ 161 0 (i32 ((0 : Nat) : Int))) (b := set) (by omega) (by omega)
          have b2 := bc_i (σ := si σ 161 0 (i32 ((0 : Nat) : Int))) (b := (fsM S n set).1) (by omega) (by omega)
          have pb1 := pcI_b set
          have pb2 := pcI_b (fsM S n set).1
          have en : fsM S n (set + 1) = if 0 ≤ foodF S 0 S.mes.1 - needF S n set S.mes.1 ∧ ((fsM S n set).1 < 0 ∨ pcI set < pcI (fsM S n set).1) then ((set : Int), foodF S 0 S.mes.1 - needF S n set S.mes.1) else fsM S n set := rfl
          by_cases c3 : 0 ≤ foodF S 0 S.mes.1 - needF S n set S.mes.1
          · by_cases c4 : (fsM S n set).1 < 0
            · rw [if_pos ⟨c3, Or.inl c4⟩] at en
              (try simp (disch := omega) only [vl_s, bp_s, bd_s, bv_s, i32_nl, i32_n, i32_add, i32_sub, i32_mul, i32_neg, i32_ca, i32_cm, i32_cs, i32_cn, i32_le, i32_lt, i32_eq, i32_cl, Int.toNat_natCast, if_pos, if_neg, ite_true, ite_false, not_true_eq_false, not_false_eq_true, Nat.add_zero, Nat.zero_add, Nat.add_sub_cancel, ck_p, cko_si, cka_si, cko_sl, cka_sl, gi_e, gi_x, gl_e, gl_x, gr_si, gl_si, gi_sl, gr_sl, b1, b2])
              exact IH2 d2 _ _ _ ⟨rfl, by rw [en], by rw [en]⟩
            · by_cases c5 : pcI set < pcI (fsM S n set).1
              · rw [if_pos ⟨c3, Or.inr c5⟩] at en
                (try simp (disch := omega) only [vl_s, bp_s, bd_s, bv_s, i32_nl, i32_n, i32_add, i32_sub, i32_mul, i32_neg, i32_ca, i32_cm, i32_cs, i32_cn, i32_le, i32_lt, i32_eq, i32_cl, Int.toNat_natCast, if_pos, if_neg, ite_true, ite_false, not_true_eq_false, not_false_eq_true, Nat.add_zero, Nat.zero_add, Nat.add_sub_cancel, ck_p, cko_si, cka_si, cko_sl, cka_sl, gi_e, gi_x, gl_e, gl_x, gr_si, gl_si, gi_sl, gr_sl, b1, b2])
                exact IH2 d2 _ _ _ ⟨rfl, by rw [en], by rw [en]⟩
              · rw [if_neg (by omega)] at en
                (try simp (disch := omega) only [vl_s, bp_s, bd_s, bv_s, i32_nl, i32_n, i32_add, i32_sub, i32_mul, i32_neg, i32_ca, i32_cm, i32_cs, i32_cn, i32_le, i32_lt, i32_eq, i32_cl, Int.toNat_natCast, if_pos, if_neg, ite_true, ite_false, not_true_eq_false, not_false_eq_true, Nat.add_zero, Nat.zero_add, Nat.add_sub_cancel, ck_p, cko_si, cka_si, cko_sl, cka_sl, gi_e, gi_x, gl_e, gl_x, gr_si, gl_si, gi_sl, gr_sl, b1, b2])
                exact IH2 d2 _ _ _ ⟨rfl, by rw [en], by rw [en]⟩
          · rw [if_neg (fun q => c3 q.1)] at en
            by_cases c4 : (fsM S n set).1 < 0
            · (try simp (disch := omega) only [vl_s, bp_s, bd_s, bv_s, i32_nl, i32_n, i32_add, i32_sub, i32_mul, i32_neg, i32_ca, i32_cm, i32_cs, i32_cn, i32_le, i32_lt, i32_eq, i32_cl, Int.toNat_natCast, if_pos, if_neg, ite_true, ite_false, not_true_eq_false, not_false_eq_true, Nat.add_zero, Nat.zero_add, Nat.add_sub_cancel, ck_p, cko_si, cka_si, cko_sl, cka_sl, gi_e, gi_x, gl_e, gl_x, gr_si, gl_si, gi_sl, gr_sl, b1, b2])
              exact IH2 d2 _ _ _ ⟨rfl, by rw [en], by rw [en]⟩
            · by_cases c5 : pcI set < pcI (fsM S n set).1
              · (try simp (disch := omega) only [vl_s, bp_s, bd_s, bv_s, i32_nl, i32_n, i32_add, i32_sub, i32_mul, i32_neg, i32_ca, i32_cm, i32_cs, i32_cn, i32_le, i32_lt, i32_eq, i32_cl, Int.toNat_natCast, if_pos, if_neg, ite_true, ite_false, not_true_eq_false, not_false_eq_true, Nat.add_zero, Nat.zero_add, Nat.add_sub_cancel, ck_p, cko_si, cka_si, cko_sl, cka_sl, gi_e, gi_x, gl_e, gl_x, gr_si, gl_si, gi_sl, gr_sl, b1, b2])
                exact IH2 d2 _ _ _ ⟨rfl, by rw [en], by rw [en]⟩
              · (try simp (disch := omega) only [vl_s, bp_s, bd_s, bv_s, i32_nl, i32_n, i32_add, i32_sub, i32_mul, i32_neg, i32_ca, i32_cm, i32_cs, i32_cn, i32_le, i32_lt, i32_eq, i32_cl, Int.toNat_natCast, if_pos, if_neg, ite_true, ite_false, not_true_eq_false, not_false_eq_true, Nat.add_zero, Nat.zero_add, Nat.add_sub_cancel, ck_p, cko_si, cka_si, cko_sl, cka_sl, gi_e, gi_x, gl_e, gl_x, gr_si, gl_si, gi_sl, gr_sl, b1, b2])
                exact IH2 d2 _ _ _ ⟨rfl, by rw [en], by rw [en]⟩
        · have hsP : set = P := by omega
          rw [hsP] at *
          have e7' : gi (si σ 161 0 (i32 ((0 : Nat) : Int))) 161 7 = i32 S.mes.1 := by rw [gi_x (by omega)]; exact e7
          rw [e7', shl, cko_si, cko_c hm.k (by decide), if_pos (by rw [i32_le (by omega) (by omega) (by omega) (by omega)]; omega)]
          have fsP := fsM_b S n P
          have b2 := bc_i (σ := si (si σ 161 0 (i32 ((0 : Nat) : Int))) 161 1 (i32 ((0 : Nat) : Int))) (b := (fsM S n (P)).1) (by omega) (by omega)
          (try simp (disch := omega) only [vl_s, bp_s, bd_s, bv_s, i32_nl, i32_n, i32_add, i32_sub, i32_mul, i32_neg, i32_ca, i32_cm, i32_cs, i32_cn, i32_le, i32_lt, i32_eq, i32_cl, Int.toNat_natCast, if_pos, if_neg, ite_true, ite_false, not_true_eq_false, not_false_eq_true, Nat.add_zero, Nat.zero_add, Nat.add_sub_cancel, ck_p, cko_si, cka_si, cko_sl, cka_sl, gi_e, gi_x, gl_e, gl_x, gr_si, gl_si, gi_sl, gr_sl, cko_c hm.k (show 3 ∈ [3] by decide), dr_c hm.r2, dr_c hm.r9, dr_c hm.r10, dr_c hm.r11, dr_c hm.r12, dr_c hm.r13, dr_c hm.r14, dr_c hm.r15, dr_c hm.r16, dr_c hm.r21, dr_c hm.r23, dr_c hm.r24, dr_c hm.r27, dr_c hm.r28, dr_c hm.r30, dr_c hm.r33, dr_c hm.r34, dr_c hm.r36, dr_c hm.r37, dr_c hm.r38, dr_c hm.r41, dr_c hm.r43, dr_c hm.r44, dr_c hm.r45, dr_c hm.r46, dr_c hm.r47, dr_c hm.r50, dr_c hm.r51, dr_c hm.r52, cka_i hm.k162 hm.l162, cka_i hm.k163 hm.l163, cka_i hm.k164 hm.l164, cka_i hm.k165 hm.l165, cka_i hm.k166 hm.l166, cka_i hm.k167 hm.l167, cka_i hm.k168 hm.l168, cka_i hm.k169 hm.l169, cka_i hm.k170 hm.l170, cka_i hm.k171 hm.l171, cka_i hm.k172 hm.l172, cka_i hm.k173 hm.l173, cka_i hm.k174 hm.l174, cka_i hm.k175 hm.l175, cka_i hm.k176 hm.l176, cka_i hm.k177 hm.l177, cka_i hm.k178 hm.l178, cka_i hm.k179 hm.l179, cka_i hm.k180 hm.l180, cka_i hm.k181 hm.l181, cka_i hm.k182 hm.l182, cka_i hm.k183 hm.l183, cka_i hm.k184 hm.l184, cka_i hm.k185 hm.l185, cka_i hm.k186 hm.l186, cka_i hm.k187 hm.l187, cka_i hm.k188 hm.l188, cka_i hm.k189 hm.l189, cka_i hm.k190 hm.l190, b2])
          refine ok_bv (M_enters (M_row0 q0) (by show 0 < 40; omega) _) ?_
          rintro σ3 ⟨q3, F3⟩
          have hm3 := q3.ml
          (try simp (disch := omega) only [vl_s, bp_s, bd_s, bv_s, i32_nl, i32_n, i32_add, i32_sub, i32_mul, i32_neg, i32_ca, i32_cm, i32_cs, i32_cn, i32_le, i32_lt, i32_eq, i32_cl, Int.toNat_natCast, if_pos, if_neg, ite_true, ite_false, not_true_eq_false, not_false_eq_true, Nat.add_zero, Nat.zero_add, Nat.add_sub_cancel, ck_p, cko_si, cka_si, cko_sl, cka_sl, gi_e, gi_x, gl_e, gl_x, gr_si, gl_si, gi_sl, gr_sl, cko_c hm3.k (show 3 ∈ [3] by decide), dr_c hm3.r2, dr_c hm3.r9, dr_c hm3.r10, dr_c hm3.r11, dr_c hm3.r12, dr_c hm3.r13, dr_c hm3.r14, dr_c hm3.r15, dr_c hm3.r16, dr_c hm3.r21, dr_c hm3.r23, dr_c hm3.r24, dr_c hm3.r27, dr_c hm3.r28, dr_c hm3.r30, dr_c hm3.r33, dr_c hm3.r34, dr_c hm3.r36, dr_c hm3.r37, dr_c hm3.r38, dr_c hm3.r41, dr_c hm3.r43, dr_c hm3.r44, dr_c hm3.r45, dr_c hm3.r46, dr_c hm3.r47, dr_c hm3.r50, dr_c hm3.r51, dr_c hm3.r52, cka_i hm3.k162 hm3.l162, cka_i hm3.k163 hm3.l163, cka_i hm3.k164 hm3.l164, cka_i hm3.k165 hm3.l165, cka_i hm3.k166 hm3.l166, cka_i hm3.k167 hm3.l167, cka_i hm3.k168 hm3.l168, cka_i hm3.k169 hm3.l169, cka_i hm3.k170 hm3.l170, cka_i hm3.k171 hm3.l171, cka_i hm3.k172 hm3.l172, cka_i hm3.k173 hm3.l173, cka_i hm3.k174 hm3.l174, cka_i hm3.k175 hm3.l175, cka_i hm3.k176 hm3.l176, cka_i hm3.k177 hm3.l177, cka_i hm3.k178 hm3.l178, cka_i hm3.k179 hm3.l179, cka_i hm3.k180 hm3.l180, cka_i hm3.k181 hm3.l181, cka_i hm3.k182 hm3.l182, cka_i hm3.k183 hm3.l183, cka_i hm3.k184 hm3.l184, cka_i hm3.k185 hm3.l185, cka_i hm3.k186 hm3.l186, cka_i hm3.k187 hm3.l187, cka_i hm3.k188 hm3.l188, cka_i hm3.k189 hm3.l189, cka_i hm3.k190 hm3.l190])
          refine ok_bv (M_enters q3 (by show 0 + 1 < 40; omega) _) ?_
          rintro σ4 ⟨q4, F4⟩
          (try simp (disch := omega) only [vl_s, bp_s, bd_s, bv_s, i32_nl, i32_n, i32_add, i32_sub, i32_mul, i32_neg, i32_ca, i32_cm, i32_cs, i32_cn, i32_le, i32_lt, i32_eq, i32_cl, Int.toNat_natCast, if_pos, if_neg, ite_true, ite_false, not_true_eq_false, not_false_eq_true, Nat.add_zero, Nat.zero_add, Nat.add_sub_cancel, ck_p, cko_si, cka_si, cko_sl, cka_sl, gi_e, gi_x, gl_e, gl_x, gr_si, gl_si, gi_sl, gr_sl])
          rw [← hQ]
          unfold aFast nFast
          rw [if_pos ⟨c1, c2⟩, if_pos ⟨c1, c2⟩, hP]
          exact ok_some ⟨rfl, q4, ((FM_thrown.tr0 (F_row0.rsm (by decide))).tr0 (F3.rsm (by decide))).tr0 (F4.rsm (by decide))⟩
  · (try simp (disch := omega) only [vl_s, bp_s, bd_s, bv_s, i32_nl, i32_n, i32_add, i32_sub, i32_mul, i32_neg, i32_ca, i32_cm, i32_cs, i32_cn, i32_le, i32_lt, i32_eq, i32_cl, Int.toNat_natCast, if_pos, if_neg, ite_true, ite_false, not_true_eq_false, not_false_eq_true, Nat.add_zero, Nat.zero_add, Nat.add_sub_cancel, ck_p, cko_si, cka_si, cko_sl, cka_sl, gi_e, gi_x, gl_e, gl_x, gr_si, gl_si, gi_sl, gr_sl, cko_c hm.k (show 3 ∈ [3] by decide), dr_c hm.r2, dr_c hm.r9, dr_c hm.r10, dr_c hm.r11, dr_c hm.r12, dr_c hm.r13, dr_c hm.r14, dr_c hm.r15, dr_c hm.r16, dr_c hm.r21, dr_c hm.r23, dr_c hm.r24, dr_c hm.r27, dr_c hm.r28, dr_c hm.r30, dr_c hm.r33, dr_c hm.r34, dr_c hm.r36, dr_c hm.r37, dr_c hm.r38, dr_c hm.r41, dr_c hm.r43, dr_c hm.r44, dr_c hm.r45, dr_c hm.r46, dr_c hm.r47, dr_c hm.r50, dr_c hm.r51, dr_c hm.r52, cka_i hm.k162 hm.l162, cka_i hm.k163 hm.l163, cka_i hm.k164 hm.l164, cka_i hm.k165 hm.l165, cka_i hm.k166 hm.l166, cka_i hm.k167 hm.l167, cka_i hm.k168 hm.l168, cka_i hm.k169 hm.l169, cka_i hm.k170 hm.l170, cka_i hm.k171 hm.l171, cka_i hm.k172 hm.l172, cka_i hm.k173 hm.l173, cka_i hm.k174 hm.l174, cka_i hm.k175 hm.l175, cka_i hm.k176 hm.l176, cka_i hm.k177 hm.l177, cka_i hm.k178 hm.l178, cka_i hm.k179 hm.l179, cka_i hm.k180 hm.l180, cka_i hm.k181 hm.l181, cka_i hm.k182 hm.l182, cka_i hm.k183 hm.l183, cka_i hm.k184 hm.l184, cka_i hm.k185 hm.l185, cka_i hm.k186 hm.l186, cka_i hm.k187 hm.l187, cka_i hm.k188 hm.l188, cka_i hm.k189 hm.l189, cka_i hm.k190 hm.l190, X3_inI, X1_inI, i32_64, b01_i0, b01_i1, i64_m1, i64_0, i64_1, i64_2, i64_3, i64_8, i64_9, i64_10, i64_12, i64_15, i64_18, i64_20, i64_24, i64_30, i64_39, i64_48, i64_57, i64_60, i64_99, i64_100, i64_999, i64_99999])
    exact no (fun q => c1 q.1)
