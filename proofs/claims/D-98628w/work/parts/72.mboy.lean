/-! THE MODEL'S ACTS: the boy, mutinies -/
set_option maxRecDepth 100000
/-- who goes to and fro: where, which way -/
def zig (c : Int) (s : Int × Int) : Nat → Int × Int
  | 0 => s
  | k + 1 => let p := zig c s k
    (p.1 + p.2, if p.1 + p.2 = c - 1 then -1 else if p.1 + p.2 = 0 then 1 else p.2)
theorem zig_b {c : Int} {s : Int × Int} (hc : 2 ≤ c) (h : 0 ≤ s.1 ∧ s.1 ≤ c - 1 ∧ ((s.2 = 1 ∧ s.1 < c - 1) ∨ (s.2 = -1 ∧ 0 < s.1))) : ∀ k, 0 ≤ (zig c s k).1 ∧ (zig c s k).1 ≤ c - 1 ∧ (((zig c s k).2 = 1 ∧ (zig c s k).1 < c - 1) ∨ ((zig c s k).2 = -1 ∧ 0 < (zig c s k).1))
  | 0 => h
  | k + 1 => by
    have ih := zig_b hc h k
    unfold zig
    dsimp only
    by_cases d1 : (zig c s k).1 + (zig c s k).2 = c - 1
    · rw [if_pos d1]; omega
    · rw [if_neg d1]
      by_cases d2 : (zig c s k).1 + (zig c s k).2 = 0
      · rw [if_pos d2]; omega
      · rw [if_neg d2]; omega
theorem M_boyGoes {S : St} {σ : vMem} {p : Int × Int} (h : RM S σ) (g : gShp S.shp) (h48 : gi σ 161 48 = i32 p.1) (h49 : gi σ 161 49 = i32 p.2) (b : 0 ≤ p.1 ∧ p.1 ≤ S.shp.1 - 1 ∧ ((p.2 = 1 ∧ p.1 < S.shp.1 - 1) ∨ (p.2 = -1 ∧ 0 < p.1))) : ok (f_X3_boyGoes σ 161) (fun σ' => RM S σ' ∧ Fr (KM [0]) 0 0 σ σ' ∧ gi σ' 161 48 = i32 (p.1 + p.2) ∧ gi σ' 161 49 = i32 (if p.1 + p.2 = S.shp.1 - 1 then -1 else if p.1 + p.2 = 0 then 1 else p.2)) := by
  have hm := h.ml
  have q3 := h.shp.1
  have g1 : 2 ≤ S.shp.1 := g.1
  have g2 : S.shp.1 ≤ 40 := g.2.1
  have fin : ∀ z : Int, z = (if p.1 + p.2 = S.shp.1 - 1 then -1 else if p.1 + p.2 = 0 then 1 else p.2) → ok (some (si (si σ 161 48 (i32 (p.1 + p.2))) 161 49 (i32 z))) (fun σ' => RM S σ' ∧ Fr (KM [0]) 0 0 σ σ' ∧ gi σ' 161 48 = i32 (p.1 + p.2) ∧ gi σ' 161 49 = i32 (if p.1 + p.2 = S.shp.1 - 1 then -1 else if p.1 + p.2 = 0 then 1 else p.2)) := by
    rintro z rfl
    have F : Fr (KM [0]) 0 0 σ (si (si σ 161 48 (i32 (p.1 + p.2))) 161 49 (i32 (if p.1 + p.2 = S.shp.1 - 1 then -1 else if p.1 + p.2 = 0 then 1 else p.2))) := (Fr.rf.wm 0 rfl (by decide)).wm 0 rfl (by decide)
    exact ok_some ⟨h.u0 F, F, by rw [gi_x (by omega), gi_e ⟨rfl, rfl⟩], gi_e ⟨rfl, rfl⟩⟩
  generalize hQ : (fun σ' => RM S σ' ∧ Fr (KM [0]) 0 0 σ σ' ∧ gi σ' 161 48 = i32 (p.1 + p.2) ∧ gi σ' 161 49 = i32 (if p.1 + p.2 = S.shp.1 - 1 then -1 else if p.1 + p.2 = 0 then 1 else p.2)) = Q at fin
  unfold f_X3_boyGoes
  have pb : 0 ≤ p.1 + p.2 ∧ p.1 + p.2 ≤ S.shp.1 - 1 := by omega
  by_cases d1 : p.1 + p.2 = S.shp.1 - 1
  · (try simp (disch := omega) only [vl_s, bp_s, bd_s, bv_s, i32_nl, i32_n, i32_add, i32_sub, i32_mul, i32_neg, i32_ca, i32_cm, i32_cs, i32_cn, i32_le, i32_lt, i32_eq, i32_cl, Int.toNat_natCast, if_pos, if_neg, ite_true, ite_false, not_true_eq_false, not_false_eq_true, Nat.add_zero, Nat.zero_add, Nat.add_sub_cancel, ck_p, cko_si, cka_si, cko_sl, cka_sl, gi_e, gi_x, gl_e, gl_x, gr_si, gl_si, gi_sl, gr_sl, cko_c hm.k (show 3 ∈ [3] by decide), dr_c hm.r2, dr_c hm.r9, dr_c hm.r10, dr_c hm.r11, dr_c hm.r12, dr_c hm.r13, dr_c hm.r14, dr_c hm.r15, dr_c hm.r16, dr_c hm.r21, dr_c hm.r23, dr_c hm.r24, dr_c hm.r27, dr_c hm.r28, dr_c hm.r30, dr_c hm.r33, dr_c hm.r34, dr_c hm.r36, dr_c hm.r37, dr_c hm.r38, dr_c hm.r41, dr_c hm.r43, dr_c hm.r44, dr_c hm.r45, dr_c hm.r46, dr_c hm.r47, dr_c hm.r50, dr_c hm.r51, dr_c hm.r52, cka_i hm.k162 hm.l162, cka_i hm.k163 hm.l163, cka_i hm.k164 hm.l164, cka_i hm.k165 hm.l165, cka_i hm.k166 hm.l166, cka_i hm.k167 hm.l167, cka_i hm.k168 hm.l168, cka_i hm.k169 hm.l169, cka_i hm.k170 hm.l170, cka_i hm.k171 hm.l171, cka_i hm.k172 hm.l172, cka_i hm.k173 hm.l173, cka_i hm.k174 hm.l174, cka_i hm.k175 hm.l175, cka_i hm.k176 hm.l176, cka_i hm.k177 hm.l177, cka_i hm.k178 hm.l178, cka_i hm.k179 hm.l179, cka_i hm.k180 hm.l180, cka_i hm.k181 hm.l181, cka_i hm.k182 hm.l182, cka_i hm.k183 hm.l183, cka_i hm.k184 hm.l184, cka_i hm.k185 hm.l185, cka_i hm.k186 hm.l186, cka_i hm.k187 hm.l187, cka_i hm.k188 hm.l188, cka_i hm.k189 hm.l189, cka_i hm.k190 hm.l190, q3, h48, h49])
    exact fin _ (by rw [if_pos d1]; rfl)
  · by_cases d2 : p.1 + p.2 = 0
    · (try simp (disch := omega) only [vl_s, bp_s, bd_s, bv_s, i32_nl, i32_n, i32_add, i32_sub, i32_mul, i32_neg, i32_ca, i32_cm, i32_cs, i32_cn, i32_le, i32_lt, i32_eq, i32_cl, Int.toNat_natCast, if_pos, if_neg, ite_true, ite_false, not_true_eq_false, not_false_eq_true, Nat.add_zero, Nat.zero_add, Nat.add_sub_cancel, ck_p, cko_si, cka_si, cko_sl, cka_sl, gi_e, gi_x, gl_e, gl_x, gr_si, gl_si, gi_sl, gr_sl, cko_c hm.k (show 3 ∈ [3] by decide), dr_c hm.r2, dr_c hm.r9, dr_c hm.r10, dr_c hm.r11, dr_c hm.r12, dr_c hm.r13, dr_c hm.r14, dr_c hm.r15, dr_c hm.r16, dr_c hm.r21, dr_c hm.r23, dr_c hm.r24, dr_c hm.r27, dr_c hm.r28, dr_c hm.r30, dr_c hm.r33, dr_c hm.r34, dr_c hm.r36, dr_c hm.r37, dr_c hm.r38, dr_c hm.r41, dr_c hm.r43, dr_c hm.r44, dr_c hm.r45, dr_c hm.r46, dr_c hm.r47, dr_c hm.r50, dr_c hm.r51, dr_c hm.r52, cka_i hm.k162 hm.l162, cka_i hm.k163 hm.l163, cka_i hm.k164 hm.l164, cka_i hm.k165 hm.l165, cka_i hm.k166 hm.l166, cka_i hm.k167 hm.l167, cka_i hm.k168 hm.l168, cka_i hm.k169 hm.l169, cka_i hm.k170 hm.l170, cka_i hm.k171 hm.l171, cka_i hm.k172 hm.l172, cka_i hm.k173 hm.l173, cka_i hm.k174 hm.l174, cka_i hm.k175 hm.l175, cka_i hm.k176 hm.l176, cka_i hm.k177 hm.l177, cka_i hm.k178 hm.l178, cka_i hm.k179 hm.l179, cka_i hm.k180 hm.l180, cka_i hm.k181 hm.l181, cka_i hm.k182 hm.l182, cka_i hm.k183 hm.l183, cka_i hm.k184 hm.l184, cka_i hm.k185 hm.l185, cka_i hm.k186 hm.l186, cka_i hm.k187 hm.l187, cka_i hm.k188 hm.l188, cka_i hm.k189 hm.l189, cka_i hm.k190 hm.l190, q3, h48, h49])
      exact fin _ (by rw [if_neg d1, if_pos d2]; rfl)
    · (try simp (disch := omega) only [vl_s, bp_s, bd_s, bv_s, i32_nl, i32_n, i32_add, i32_sub, i32_mul, i32_neg, i32_ca, i32_cm, i32_cs, i32_cn, i32_le, i32_lt, i32_eq, i32_cl, Int.toNat_natCast, if_pos, if_neg, ite_true, ite_false, not_true_eq_false, not_false_eq_true, Nat.add_zero, Nat.zero_add, Nat.add_sub_cancel, ck_p, cko_si, cka_si, cko_sl, cka_sl, gi_e, gi_x, gl_e, gl_x, gr_si, gl_si, gi_sl, gr_sl, cko_c hm.k (show 3 ∈ [3] by decide), dr_c hm.r2, dr_c hm.r9, dr_c hm.r10, dr_c hm.r11, dr_c hm.r12, dr_c hm.r13, dr_c hm.r14, dr_c hm.r15, dr_c hm.r16, dr_c hm.r21, dr_c hm.r23, dr_c hm.r24, dr_c hm.r27, dr_c hm.r28, dr_c hm.r30, dr_c hm.r33, dr_c hm.r34, dr_c hm.r36, dr_c hm.r37, dr_c hm.r38, dr_c hm.r41, dr_c hm.r43, dr_c hm.r44, dr_c hm.r45, dr_c hm.r46, dr_c hm.r47, dr_c hm.r50, dr_c hm.r51, dr_c hm.r52, cka_i hm.k162 hm.l162, cka_i hm.k163 hm.l163, cka_i hm.k164 hm.l164, cka_i hm.k165 hm.l165, cka_i hm.k166 hm.l166, cka_i hm.k167 hm.l167, cka_i hm.k168 hm.l168, cka_i hm.k169 hm.l169, cka_i hm.k170 hm.l170, cka_i hm.k171 hm.l171, cka_i hm.k172 hm.l172, cka_i hm.k173 hm.l173, cka_i hm.k174 hm.l174, cka_i hm.k175 hm.l175, cka_i hm.k176 hm.l176, cka_i hm.k177 hm.l177, cka_i hm.k178 hm.l178, cka_i hm.k179 hm.l179, cka_i hm.k180 hm.l180, cka_i hm.k181 hm.l181, cka_i hm.k182 hm.l182, cka_i hm.k183 hm.l183, cka_i hm.k184 hm.l184, cka_i hm.k185 hm.l185, cka_i hm.k186 hm.l186, cka_i hm.k187 hm.l187, cka_i hm.k188 hm.l188, cka_i hm.k189 hm.l189, cka_i hm.k190 hm.l190, q3, h48, h49])
      exact fin _ (by rw [if_neg d1, if_neg d2])
theorem cnt_s {k r : Nat} (hr : 2 ≤ r) : k + 1 - (k + 1) / r = (k - k / r) + if (k + 1) / r * r = k + 1 then 0 else 1 := by
  have h1 := Nat.div_add_mod (k + 1) r
  have h2 := Nat.mod_lt (k + 1) (show 0 < r by omega)
  have h3 : (k + 1) / r = k / r + if r ∣ k + 1 then 1 else 0 := Nat.succ_div
  have hk : k / r ≤ k := Nat.div_le_self _ _
  have hd : r ∣ k + 1 ↔ (k + 1) / r * r = k + 1 := by
    rw [Nat.mul_comm]
    exact ⟨fun h => Nat.mul_div_cancel' h, fun h => ⟨_, h.symm⟩⟩
  by_cases d : (k + 1) / r * r = k + 1
  · rw [if_pos d]
    rw [if_pos (hd.mpr d)] at h3
    omega
  · rw [if_neg d]
    rw [if_neg (fun q => d (hd.mp q))] at h3
    omega
theorem X3_canRest {σ : vMem} {r : Int} (h1 : -2147483648 ≤ r) (h2 : r < 2147483648) : f_X3_canRest σ (i32 r) = some (b01 (2 ≤ r ∧ r ≤ 9)) := by
  unfold f_X3_canRest
  rw [X3_inI h1 h2]
  simp only [bp_s, i64_2, i64_9]
  unfold ck
  rw [if_pos b01_n]
  rfl
def aBoy (S : St) (n r : Int) : Int := if (0 ≤ n ∧ n ≤ 99999) ∧ 2 ≤ r ∧ r ≤ 9 then (zig S.shp.1 (0, 1) (n.toNat - n.toNat / r.toNat)).1 else -1
def nBoy (S : St) (n r : Int) : St := if (0 ≤ n ∧ n ≤ 99999) ∧ 2 ≤ r ∧ r ≤ 9 then rowA (row0 S) (Int32.toInt64 (i32 (zig S.shp.1 (0, 1) (n.toNat - n.toNat / r.toNat)).2)) else S
theorem M_boy {S : St} {σ : vMem} {B n r : Int} (h : RM S σ) (g : gSt B S) (h1 : -2147483648 ≤ n) (h2 : n < 2147483648) (h3 : -2147483648 ≤ r) (h4 : r < 2147483648) : ok (f_X3_boy σ 161 (i32 n) (i32 r)) (fun q => q.1 = i32 (aBoy S n r) ∧ RM (nBoy S n r) q.2 ∧ FM σ q.2) := by
  have hm := h.ml
  have q0 := M_thrown h (i32 ((0 : Nat) : Int))
  have g1 : 2 ≤ S.shp.1 := g.shp.1
  have g2 : S.shp.1 ≤ 40 := g.shp.2.1
  generalize hQ : (fun q : Int32 × vMem => q.1 = i32 (aBoy S n r) ∧ RM (nBoy S n r) q.2 ∧ FM σ q.2) = Q
  have no : ¬ ((0 ≤ n ∧ n ≤ 99999) ∧ 2 ≤ r ∧ r ≤ 9) → ok (some (i32 (-1), si σ 161 0 (i32 ((0 : Nat) : Int)))) Q := fun c => by
    rw [← hQ]
    unfold aBoy nBoy
    rw [if_neg c, if_neg c]
    exact ok_some ⟨rfl, q0, FM_thrown⟩
  unfold f_X3_boy
  by_cases c1 : 0 ≤ n ∧ n ≤ 99999
  · by_cases c2 : 2 ≤ r ∧ r ≤ 9
    · obtain ⟨k, rfl⟩ : ∃ k : Nat, n = k := ⟨n.toNat, by omega⟩
      obtain ⟨j, rfl⟩ : ∃ j : Nat, r = j := ⟨r.toNat, by omega⟩
      have zb := zig_b (c := S.shp.1) (s := (0, 1)) g1 ⟨by decide, by show (0 : Int) ≤ S.shp.1 - 1; omega, Or.inl ⟨rfl, by show (0 : Int) < S.shp.1 - 1; omega⟩⟩
      have bb : f_X3_boyBegins (si σ 161 0 (i32 ((0 : Nat) : Int))) 161 (i32 ((0 : Nat) : Int)) (i32 ((1 : Nat) : Int)) = some (si (si (si σ 161 0 (i32 ((0 : Nat) : Int))) 161 48 (i32 ((0 : Nat) : Int))) 161 49 (i32 ((1 : Nat) : Int))) := by
        unfold f_X3_boyBegins
        (try simp (disch := omega) only [vl_s, bp_s, bd_s, bv_s, i32_nl, i32_n, i32_add, i32_sub, i32_mul, i32_neg, i32_ca, i32_cm, i32_cs, i32_cn, i32_le, i32_lt, i32_eq, i32_cl, Int.toNat_natCast, if_pos, if_neg, ite_true, ite_false, not_true_eq_false, not_false_eq_true, Nat.add_zero, Nat.zero_add, Nat.add_sub_cancel, ck_p, cko_si, cka_si, cko_sl, cka_sl, gi_e, gi_x, gl_e, gl_x, gr_si, gl_si, gi_sl, gr_sl, cko_c hm.k (show 3 ∈ [3] by decide), dr_c hm.r2, dr_c hm.r9, dr_c hm.r10, dr_c hm.r11, dr_c hm.r12, dr_c hm.r13, dr_c hm.r14, dr_c hm.r15, dr_c hm.r16, dr_c hm.r21, dr_c hm.r23, dr_c hm.r24, dr_c hm.r27, dr_c hm.r28, dr_c hm.r30, dr_c hm.r33, dr_c hm.r34, dr_c hm.r36, dr_c hm.r37, dr_c hm.r38, dr_c hm.r41, dr_c hm.r43, dr_c hm.r44, dr_c hm.r45, dr_c hm.r46, dr_c hm.r47, dr_c hm.r50, dr_c hm.r51, dr_c hm.r52, cka_i hm.k162 hm.l162, cka_i hm.k163 hm.l163, cka_i hm.k164 hm.l164, cka_i hm.k165 hm.l165, cka_i hm.k166 hm.l166, cka_i hm.k167 hm.l167, cka_i hm.k168 hm.l168, cka_i hm.k169 hm.l169, cka_i hm.k170 hm.l170, cka_i hm.k171 hm.l171, cka_i hm.k172 hm.l172, cka_i hm.k173 hm.l173, cka_i hm.k174 hm.l174, cka_i hm.k175 hm.l175, cka_i hm.k176 hm.l176, cka_i hm.k177 hm.l177, cka_i hm.k178 hm.l178, cka_i hm.k179 hm.l179, cka_i hm.k180 hm.l180, cka_i hm.k181 hm.l181, cka_i hm.k182 hm.l182, cka_i hm.k183 hm.l183, cka_i hm.k184 hm.l184, cka_i hm.k185 hm.l185, cka_i hm.k186 hm.l186, cka_i hm.k187 hm.l187, cka_i hm.k188 hm.l188, cka_i hm.k189 hm.l189, cka_i hm.k190 hm.l190])
      (try simp (disch := omega) only [vl_s, bp_s, bd_s, bv_s, i32_nl, i32_n, i32_add, i32_sub, i32_mul, i32_neg, i32_ca, i32_cm, i32_cs, i32_cn, i32_le, i32_lt, i32_eq, i32_cl, Int.toNat_natCast, if_pos, if_neg, ite_true, ite_false, not_true_eq_false, not_false_eq_true, Nat.add_zero, Nat.zero_add, Nat.add_sub_cancel, ck_p, cko_si, cka_si, cko_sl, cka_sl, gi_e, gi_x, gl_e, gl_x, gr_si, gl_si, gi_sl, gr_sl, cko_c hm.k (show 3 ∈ [3] by decide), dr_c hm.r2, dr_c hm.r9, dr_c hm.r10, dr_c hm.r11, dr_c hm.r12, dr_c hm.r13, dr_c hm.r14, dr_c hm.r15, dr_c hm.r16, dr_c hm.r21, dr_c hm.r23, dr_c hm.r24, dr_c hm.r27, dr_c hm.r28, dr_c hm.r30, dr_c hm.r33, dr_c hm.r34, dr_c hm.r36, dr_c hm.r37, dr_c hm.r38, dr_c hm.r41, dr_c hm.r43, dr_c hm.r44, dr_c hm.r45, dr_c hm.r46, dr_c hm.r47, dr_c hm.r50, dr_c hm.r51, dr_c hm.r52, cka_i hm.k162 hm.l162, cka_i hm.k163 hm.l163, cka_i hm.k164 hm.l164, cka_i hm.k165 hm.l165, cka_i hm.k166 hm.l166, cka_i hm.k167 hm.l167, cka_i hm.k168 hm.l168, cka_i hm.k169 hm.l169, cka_i hm.k170 hm.l170, cka_i hm.k171 hm.l171, cka_i hm.k172 hm.l172, cka_i hm.k173 hm.l173, cka_i hm.k174 hm.l174, cka_i hm.k175 hm.l175, cka_i hm.k176 hm.l176, cka_i hm.k177 hm.l177, cka_i hm.k178 hm.l178, cka_i hm.k179 hm.l179, cka_i hm.k180 hm.l180, cka_i hm.k181 hm.l181, cka_i hm.k182 hm.l182, cka_i hm.k183 hm.l183, cka_i hm.k184 hm.l184, cka_i hm.k185 hm.l185, cka_i hm.k186 hm.l186, cka_i hm.k187 hm.l187, cka_i hm.k188 hm.l188, cka_i hm.k189 hm.l189, cka_i hm.k190 hm.l190, X3_inI, X1_inI, i32_64, b01_i0, b01_i1, i64_m1, i64_0, i64_1, i64_2, i64_3, i64_8, i64_9, i64_10, i64_12, i64_15, i64_18, i64_20, i64_24, i64_30, i64_39, i64_48, i64_57, i64_60, i64_99, i64_100, i64_999, i64_99999, X3_canRest, bb])
      have F0 : Fr (KM [0]) 0 0 σ (si (si (si σ 161 0 (i32 ((0 : Nat) : Int))) 161 48 (i32 ((0 : Nat) : Int))) 161 49 (i32 ((1 : Nat) : Int))) := ((Fr.rf.wm 0 rfl (by decide)).wm 0 rfl (by decide)).wm 0 rfl (by decide)
      refine loop2 (F := f_X3_boy_34 161 (i32 k) (i32 j) _) k (fun i σ1 x => x = i32 (i + 1 : Nat) ∧ RM S σ1 ∧ Fr (KM [0]) 0 0 σ σ1 ∧ gi σ1 161 48 = i32 (zig S.shp.1 (0, 1) (i - i / j)).1 ∧ gi σ1 161 49 = i32 (zig S.shp.1 (0, 1) (i - i / j)).2) ?_ FU 0 _ _ (by omega) ⟨rfl, h.u0 F0, F0, ?_, ?_⟩ (by unfold FU; omega)
      · rintro m i σ1 x hi ⟨rfl, q1, F1, e48, e49⟩ IH
        have hm1 := q1.ml
        have hdiv : i32 ((i + 1 : Nat) : Int) / i32 j = i32 ((i + 1) / j : Nat) := i32_div (by omega) (by omega) (by omega) (by omega)
        have hdl : (i + 1) / j ≤ i + 1 := Nat.div_le_self _ _
        have hml : (i + 1) / j * j ≤ i + 1 := Nat.div_mul_le_self _ _
        have cs := cnt_s (k := i) (r := j) (by omega)
        rw [f_X3_boy_34.eq_2]
        by_cases d : i < k
        · by_cases e : (i + 1) / j * j = i + 1
          · rw [if_pos e, Nat.add_zero] at cs
            (try simp (disch := omega) only [vl_s, bp_s, bd_s, bv_s, i32_nl, i32_n, i32_add, i32_sub, i32_mul, i32_neg, i32_ca, i32_cm, i32_cs, i32_cn, i32_le, i32_lt, i32_eq, i32_cl, Int.toNat_natCast, if_pos, if_neg, ite_true, ite_false, not_true_eq_false, not_false_eq_true, Nat.add_zero, Nat.zero_add, Nat.add_sub_cancel, ck_p, cko_si, cka_si, cko_sl, cka_sl, gi_e, gi_x, gl_e, gl_x, gr_si, gl_si, gi_sl, gr_sl, cko_c hm1.k (show 3 ∈ [3] by decide), dr_c hm1.r2, dr_c hm1.r9, dr_c hm1.r10, dr_c hm1.r11, dr_c hm1.r12, dr_c hm1.r13, dr_c hm1.r14, dr_c hm1.r15, dr_c hm1.r16, dr_c hm1.r21, dr_c hm1.r23, dr_c hm1.r24, dr_c hm1.r27, dr_c hm1.r28, dr_c hm1.r30, dr_c hm1.r33, dr_c hm1.r34, dr_c hm1.r36, dr_c hm1.r37, dr_c hm1.r38, dr_c hm1.r41, dr_c hm1.r43, dr_c hm1.r44, dr_c hm1.r45, dr_c hm1.r46, dr_c hm1.r47, dr_c hm1.r50, dr_c hm1.r51, dr_c hm1.r52, cka_i hm1.k162 hm1.l162, cka_i hm1.k163 hm1.l163, cka_i hm1.k164 hm1.l164, cka_i hm1.k165 hm1.l165, cka_i hm1.k166 hm1.l166, cka_i hm1.k167 hm1.l167, cka_i hm1.k168 hm1.l168, cka_i hm1.k169 hm1.l169, cka_i hm1.k170 hm1.l170, cka_i hm1.k171 hm1.l171, cka_i hm1.k172 hm1.l172, cka_i hm1.k173 hm1.l173, cka_i hm1.k174 hm1.l174, cka_i hm1.k175 hm1.l175, cka_i hm1.k176 hm1.l176, cka_i hm1.k177 hm1.l177, cka_i hm1.k178 hm1.l178, cka_i hm1.k179 hm1.l179, cka_i hm1.k180 hm1.l180, cka_i hm1.k181 hm1.l181, cka_i hm1.k182 hm1.l182, cka_i hm1.k183 hm1.l183, cka_i hm1.k184 hm1.l184, cka_i hm1.k185 hm1.l185, cka_i hm1.k186 hm1.l186, cka_i hm1.k187 hm1.l187, cka_i hm1.k188 hm1.l188, cka_i hm1.k189 hm1.l189, cka_i hm1.k190 hm1.l190, hdiv])
            exact IH d _ _ ⟨rfl, q1, F1, by rw [cs]; exact e48, by rw [cs]; exact e49⟩
          · rw [if_neg e] at cs
            (try simp (disch := omega) only [vl_s, bp_s, bd_s, bv_s, i32_nl, i32_n, i32_add, i32_sub, i32_mul, i32_neg, i32_ca, i32_cm, i32_cs, i32_cn, i32_le, i32_lt, i32_eq, i32_cl, Int.toNat_natCast, if_pos, if_neg, ite_true, ite_false, not_true_eq_false, not_false_eq_true, Nat.add_zero, Nat.zero_add, Nat.add_sub_cancel, ck_p, cko_si, cka_si, cko_sl, cka_sl, gi_e, gi_x, gl_e, gl_x, gr_si, gl_si, gi_sl, gr_sl, cko_c hm1.k (show 3 ∈ [3] by decide), dr_c hm1.r2, dr_c hm1.r9, dr_c hm1.r10, dr_c hm1.r11, dr_c hm1.r12, dr_c hm1.r13, dr_c hm1.r14, dr_c hm1.r15, dr_c hm1.r16, dr_c hm1.r21, dr_c hm1.r23, dr_c hm1.r24, dr_c hm1.r27, dr_c hm1.r28, dr_c hm1.r30, dr_c hm1.r33, dr_c hm1.r34, dr_c hm1.r36, dr_c hm1.r37, dr_c hm1.r38, dr_c hm1.r41, dr_c hm1.r43, dr_c hm1.r44, dr_c hm1.r45, dr_c hm1.r46, dr_c hm1.r47, dr_c hm1.r50, dr_c hm1.r51, dr_c hm1.r52, cka_i hm1.k162 hm1.l162, cka_i hm1.k163 hm1.l163, cka_i hm1.k164 hm1.l164, cka_i hm1.k165 hm1.l165, cka_i hm1.k166 hm1.l166, cka_i hm1.k167 hm1.l167, cka_i hm1.k168 hm1.l168, cka_i hm1.k169 hm1.l169, cka_i hm1.k170 hm1.l170, cka_i hm1.k171 hm1.l171, cka_i hm1.k172 hm1.l172, cka_i hm1.k173 hm1.l173, cka_i hm1.k174 hm1.l174, cka_i hm1.k175 hm1.l175, cka_i hm1.k176 hm1.l176, cka_i hm1.k177 hm1.l177, cka_i hm1.k178 hm1.l178, cka_i hm1.k179 hm1.l179, cka_i hm1.k180 hm1.l180, cka_i hm1.k181 hm1.l181, cka_i hm1.k182 hm1.l182, cka_i hm1.k183 hm1.l183, cka_i hm1.k184 hm1.l184, cka_i hm1.k185 hm1.l185, cka_i hm1.k186 hm1.l186, cka_i hm1.k187 hm1.l187, cka_i hm1.k188 hm1.l188, cka_i hm1.k189 hm1.l189, cka_i hm1.k190 hm1.l190, hdiv])
            refine ok_bv (M_boyGoes q1 g.shp e48 e49 (zb _)) ?_
            rintro σ2 ⟨q2, F2, f48, f49⟩
            exact IH d _ _ ⟨rfl, q2, F1.tr0 F2, by rw [cs]; exact f48, by rw [cs]; exact f49⟩
        · have : i = k := by omega
          subst this
          (try simp (disch := omega) only [vl_s, bp_s, bd_s, bv_s, i32_nl, i32_n, i32_add, i32_sub, i32_mul, i32_neg, i32_ca, i32_cm, i32_cs, i32_cn, i32_le, i32_lt, i32_eq, i32_cl, Int.toNat_natCast, if_pos, if_neg, ite_true, ite_false, not_true_eq_false, not_false_eq_true, Nat.add_zero, Nat.zero_add, Nat.add_sub_cancel, ck_p, cko_si, cka_si, cko_sl, cka_sl, gi_e, gi_x, gl_e, gl_x, gr_si, gl_si, gi_sl, gr_sl, cko_c hm1.k (show 3 ∈ [3] by decide), dr_c hm1.r2, dr_c hm1.r9, dr_c hm1.r10, dr_c hm1.r11, dr_c hm1.r12, dr_c hm1.r13, dr_c hm1.r14, dr_c hm1.r15, dr_c hm1.r16, dr_c hm1.r21, dr_c hm1.r23, dr_c hm1.r24, dr_c hm1.r27, dr_c hm1.r28, dr_c hm1.r30, dr_c hm1.r33, dr_c hm1.r34, dr_c hm1.r36, dr_c hm1.r37, dr_c hm1.r38, dr_c hm1.r41, dr_c hm1.r43, dr_c hm1.r44, dr_c hm1.r45, dr_c hm1.r46, dr_c hm1.r47, dr_c hm1.r50, dr_c hm1.r51, dr_c hm1.r52, cka_i hm1.k162 hm1.l162, cka_i hm1.k163 hm1.l163, cka_i hm1.k164 hm1.l164, cka_i hm1.k165 hm1.l165, cka_i hm1.k166 hm1.l166, cka_i hm1.k167 hm1.l167, cka_i hm1.k168 hm1.l168, cka_i hm1.k169 hm1.l169, cka_i hm1.k170 hm1.l170, cka_i hm1.k171 hm1.l171, cka_i hm1.k172 hm1.l172, cka_i hm1.k173 hm1.l173, cka_i hm1.k174 hm1.l174, cka_i hm1.k175 hm1.l175, cka_i hm1.k176 hm1.l176, cka_i hm1.k177 hm1.l177, cka_i hm1.k178 hm1.l178, cka_i hm1.k179 hm1.l179, cka_i hm1.k180 hm1.l180, cka_i hm1.k181 hm1.l181, cka_i hm1.k182 hm1.l182, cka_i hm1.k183 hm1.l183, cka_i hm1.k184 hm1.l184, cka_i hm1.k185 hm1.l185, cka_i hm1.k186 hm1.l186, cka_i hm1.k187 hm1.l187, cka_i hm1.k188 hm1.l188, cka_i hm1.k189 hm1.l189, cka_i hm1.k190 hm1.l190, e49])
          refine ok_bv (M_enters (M_row0 q1) (by show 0 < 40; omega) _) ?_
          rintro σ3 ⟨q3, F3⟩
          have hm3 := q3.ml
          have f48 : gi σ3 161 48 = i32 (zig S.shp.1 (0, 1) (i - i / j)).1 := by
            rw [F3.gM (t := 0) (by decide) 161 48 (by have := (M_row0 q1).mn; omega) rfl, gi_x (by omega)]
            exact e48
          (try simp (disch := omega) only [vl_s, bp_s, bd_s, bv_s, i32_nl, i32_n, i32_add, i32_sub, i32_mul, i32_neg, i32_ca, i32_cm, i32_cs, i32_cn, i32_le, i32_lt, i32_eq, i32_cl, Int.toNat_natCast, if_pos, if_neg, ite_true, ite_false, not_true_eq_false, not_false_eq_true, Nat.add_zero, Nat.zero_add, Nat.add_sub_cancel, ck_p, cko_si, cka_si, cko_sl, cka_sl, gi_e, gi_x, gl_e, gl_x, gr_si, gl_si, gi_sl, gr_sl, cko_c hm3.k (show 3 ∈ [3] by decide), dr_c hm3.r2, dr_c hm3.r9, dr_c hm3.r10, dr_c hm3.r11, dr_c hm3.r12, dr_c hm3.r13, dr_c hm3.r14, dr_c hm3.r15, dr_c hm3.r16, dr_c hm3.r21, dr_c hm3.r23, dr_c hm3.r24, dr_c hm3.r27, dr_c hm3.r28, dr_c hm3.r30, dr_c hm3.r33, dr_c hm3.r34, dr_c hm3.r36, dr_c hm3.r37, dr_c hm3.r38, dr_c hm3.r41, dr_c hm3.r43, dr_c hm3.r44, dr_c hm3.r45, dr_c hm3.r46, dr_c hm3.r47, dr_c hm3.r50, dr_c hm3.r51, dr_c hm3.r52, cka_i hm3.k162 hm3.l162, cka_i hm3.k163 hm3.l163, cka_i hm3.k164 hm3.l164, cka_i hm3.k165 hm3.l165, cka_i hm3.k166 hm3.l166, cka_i hm3.k167 hm3.l167, cka_i hm3.k168 hm3.l168, cka_i hm3.k169 hm3.l169, cka_i hm3.k170 hm3.l170, cka_i hm3.k171 hm3.l171, cka_i hm3.k172 hm3.l172, cka_i hm3.k173 hm3.l173, cka_i hm3.k174 hm3.l174, cka_i hm3.k175 hm3.l175, cka_i hm3.k176 hm3.l176, cka_i hm3.k177 hm3.l177, cka_i hm3.k178 hm3.l178, cka_i hm3.k179 hm3.l179, cka_i hm3.k180 hm3.l180, cka_i hm3.k181 hm3.l181, cka_i hm3.k182 hm3.l182, cka_i hm3.k183 hm3.l183, cka_i hm3.k184 hm3.l184, cka_i hm3.k185 hm3.l185, cka_i hm3.k186 hm3.l186, cka_i hm3.k187 hm3.l187, cka_i hm3.k188 hm3.l188, cka_i hm3.k189 hm3.l189, cka_i hm3.k190 hm3.l190, f48])
          rw [← hQ]
          unfold aBoy nBoy
          rw [if_pos ⟨c1, c2⟩, if_pos ⟨c1, c2⟩, Int.toNat_natCast, Int.toNat_natCast]
          exact ok_some ⟨rfl, q3, ((F1.rsm (by decide)).tr0 (F_row0.rsm (by decide))).tr0 (F3.rsm (by decide))⟩
      · rw [gi_x (by omega), gi_e ⟨rfl, rfl⟩, Nat.zero_sub]; rfl
      · rw [gi_e ⟨rfl, rfl⟩, Nat.zero_sub]; rfl
    · (try simp (disch := omega) only [vl_s, bp_s, bd_s, bv_s, i32_nl, i32_n, i32_add, i32_sub, i32_mul, i32_neg, i32_ca, i32_cm, i32_cs, i32_cn, i32_le, i32_lt, i32_eq, i32_cl, Int.toNat_natCast, if_pos, if_neg, ite_true, ite_false, not_true_eq_false, not_false_eq_true, Nat.add_zero, Nat.zero_add, Nat.add_sub_cancel, ck_p, cko_si, cka_si, cko_sl, cka_sl, gi_e, gi_x, gl_e, gl_x, gr_si, gl_si, gi_sl, gr_sl, cko_c hm.k (show 3 ∈ [3] by decide), dr_c hm.r2, dr_c hm.r9, dr_c hm.r10, dr_c hm.r11, dr_c hm.r12, dr_c hm.r13, dr_c hm.r14, dr_c hm.r15, dr_c hm.r16, dr_c hm.r21, dr_c hm.r23, dr_c hm.r24, dr_c hm.r27, dr_c hm.r28, dr_c hm.r30, dr_c hm.r33, dr_c hm.r34, dr_c hm.r36, dr_c hm.r37, dr_c hm.r38, dr_c hm.r41, dr_c hm.r43, dr_c hm.r44, dr_c hm.r45, dr_c hm.r46, dr_c hm.r47, dr_c hm.r50, dr_c hm.r51, dr_c hm.r52, cka_i hm.k162 hm.l162, cka_i hm.k163 hm.l163, cka_i hm.k164 hm.l164, cka_i hm.k165 hm.l165, cka_i hm.k166 hm.l166, cka_i hm.k167 hm.l167, cka_i hm.k168 hm.l168, cka_i hm.k169 hm.l169, cka_i hm.k170 hm.l170, cka_i hm.k171 hm.l171, cka_i hm.k172 hm.l172, cka_i hm.k173 hm.l173, cka_i hm.k174 hm.l174, cka_i hm.k175 hm.l175, cka_i hm.k176 hm.l176, cka_i hm.k177 hm.l177, cka_i hm.k178 hm.l178, cka_i hm.k179 hm.l179, cka_i hm.k180 hm.l180, cka_i hm.k181 hm.l181, cka_i hm.k182 hm.l182, cka_i hm.k183 hm.l183, cka_i hm.k184 hm.l184, cka_i hm.k185 hm.l185, cka_i hm.k186 hm.l186, cka_i hm.k187 hm.l187, cka_i hm.k188 hm.l188, cka_i hm.k189 hm.l189, cka_i hm.k190 hm.l190, X3_inI, X1_inI, i32_64, b01_i0, b01_i1, i64_m1, i64_0, i64_1, i64_2, i64_3, i64_8, i64_9, i64_10, i64_12, i64_15, i64_18, i64_20, i64_24, i64_30, i64_39, i64_48, i64_57, i64_60, i64_99, i64_100, i64_999, i64_99999, X3_canRest])
      exact no (fun q => c2 q.2)
  · (try simp (disch := omega) only [vl_s, bp_s, bd_s, bv_s, i32_nl, i32_n, i32_add, i32_sub, i32_mul, i32_neg, i32_ca, i32_cm, i32_cs, i32_cn, i32_le, i32_lt, i32_eq, i32_cl, Int.toNat_natCast, if_pos, if_neg, ite_true, ite_false, not_true_eq_false, not_false_eq_true, Nat.add_zero, Nat.zero_add, Nat.add_sub_cancel, ck_p, cko_si, cka_si, cko_sl, cka_sl, gi_e, gi_x, gl_e, gl_x, gr_si, gl_si, gi_sl, gr_sl, cko_c hm.k (show 3 ∈ [3] by decide), dr_c hm.r2, dr_c hm.r9, dr_c hm.r10, dr_c hm.r11, dr_c hm.r12, dr_c hm.r13, dr_c hm.r14, dr_c hm.r15, dr_c hm.r16, dr_c hm.r21, dr_c hm.r23, dr_c hm.r24, dr_c hm.r27, dr_c hm.r28, dr_c hm.r30, dr_c hm.r33, dr_c hm.r34, dr_c hm.r36, dr_c hm.r37, dr_c hm.r38, dr_c hm.r41, dr_c hm.r43, dr_c hm.r44, dr_c hm.r45, dr_c hm.r46, dr_c hm.r47, dr_c hm.r50, dr_c hm.r51, dr_c hm.r52, cka_i hm.k162 hm.l162, cka_i hm.k163 hm.l163, cka_i hm.k164 hm.l164, cka_i hm.k165 hm.l165, cka_i hm.k166 hm.l166, cka_i hm.k167 hm.l167, cka_i hm.k168 hm.l168, cka_i hm.k169 hm.l169, cka_i hm.k170 hm.l170, cka_i hm.k171 hm.l171, cka_i hm.k172 hm.l172, cka_i hm.k173 hm.l173, cka_i hm.k174 hm.l174, cka_i hm.k175 hm.l175, cka_i hm.k176 hm.l176, cka_i hm.k177 hm.l177, cka_i hm.k178 hm.l178, cka_i hm.k179 hm.l179, cka_i hm.k180 hm.l180, cka_i hm.k181 hm.l181, cka_i hm.k182 hm.l182, cka_i hm.k183 hm.l183, cka_i hm.k184 hm.l184, cka_i hm.k185 hm.l185, cka_i hm.k186 hm.l186, cka_i hm.k187 hm.l187, cka_i hm.k188 hm.l188, cka_i hm.k189 hm.l189, cka_i hm.k190 hm.l190, X3_inI, X1_inI, i32_64, b01_i0, b01_i1, i64_m1, i64_0, i64_1, i64_2, i64_3, i64_8, i64_9, i64_10, i64_12, i64_15, i64_18, i64_20, i64_24, i64_30, i64_39, i64_48, i64_57, i64_60, i64_99, i64_100, i64_999, i64_99999, X3_canRest])
    exact no (fun q => c1 q.1)
/-- the first of n steps from k on in which they meet -/
def meetF (c : Int) (r : Nat) : Nat → Nat → Option Nat
  | 0, _ => none
  | n + 1, k => if (zig c (c - 1, -1) k).1 = (zig c (0, 1) (k - k / r)).1 then some k else meetF c r n (k + 1)
def aMeets (S : St) (r : Int) : Int := if 2 ≤ r ∧ r ≤ 9 then (match meetF S.shp.1 r.toNat 999 1 with
  | some k => (k : Int)
  | none => -2) else -1
def nMeets (S : St) (r : Int) : St := if 2 ≤ r ∧ r ≤ 9 then (match meetF S.shp.1 r.toNat 999 1 with
  | some k => rowA (row0 S) (Int32.toInt64 (i32 (zig S.shp.1 (S.shp.1 - 1, -1) k).1))
  | none => S) else S
theorem M_meets32 {S : St} {σ : vMem} {j : Nat} {K : vMem → Int32 → Int32 → Option (Int32 × vMem)} {Q : Int32 × vMem → Prop} (h : RM S σ) (g : gShp S.shp) (hj : 2 ≤ j) (hj2 : j ≤ 9) (h48 : gi σ 161 48 = i32 ((0 : Nat) : Int)) (h49 : gi σ 161 49 = i32 ((1 : Nat) : Int)) (hyes : ∀ σ1 k, RM S σ1 → Fr (KM [0]) 0 0 σ σ1 → meetF S.shp.1 j 999 1 = some k → ok (K σ1 (i32 (zig S.shp.1 (S.shp.1 - 1, -1) k).1) (i32 k)) Q) (hno : ∀ σ1, RM S σ1 → Fr (KM [0]) 0 0 σ σ1 → meetF S.shp.1 j 999 1 = none → ok (some (i32 (-2), σ1)) Q) : ok (f_X3_meets_32 161 (i32 j) K FU σ (i32 (S.shp.1 - 1)) (i32 (-1)) (i32 ((1 : Nat) : Int))) Q := by
  have g1 : 2 ≤ S.shp.1 := g.1
  have g2 : S.shp.1 ≤ 40 := g.2.1
  have zb := zig_b (c := S.shp.1) (s := (0, 1)) g1 ⟨by decide, by show (0 : Int) ≤ S.shp.1 - 1; omega, Or.inl ⟨rfl, by show (0 : Int) < S.shp.1 - 1; omega⟩⟩
  have zo := zig_b (c := S.shp.1) (s := (S.shp.1 - 1, -1)) g1 ⟨by show 0 ≤ S.shp.1 - 1; omega, Int.le_refl _, Or.inr ⟨rfl, by show 0 < S.shp.1 - 1; omega⟩⟩
  refine loop4 (F := f_X3_meets_32 161 (i32 j) K) 999 (fun i σ1 v2 v3 x => x = i32 (i + 1 : Nat) ∧ v2 = i32 (zig S.shp.1 (S.shp.1 - 1, -1) i).1 ∧ v3 = i32 (zig S.shp.1 (S.shp.1 - 1, -1) i).2 ∧ RM S σ1 ∧ Fr (KM [0]) 0 0 σ σ1 ∧ gi σ1 161 48 = i32 (zig S.shp.1 (0, 1) (i - i / j)).1 ∧ gi σ1 161 49 = i32 (zig S.shp.1 (0, 1) (i - i / j)).2 ∧ meetF S.shp.1 j 999 1 = meetF S.shp.1 j (999 - i) (i + 1)) ?_ FU 0 _ _ _ _ (by omega) ⟨rfl, rfl, rfl, h, Fr.rf, by rw [h48, Nat.zero_sub]; rfl, by rw [h49, Nat.zero_sub]; rfl, rfl⟩ (by unfold FU; omega)
  rintro m i σ1 v2 v3 x hi ⟨rfl, rfl, rfl, q1, F1, e48, e49, hf⟩ IH
  have hm1 := q1.ml
  have e3 := q1.shp.1
  have hdiv : i32 ((i + 1 : Nat) : Int) / i32 j = i32 ((i + 1) / j : Nat) := i32_div (by omega) (by omega) (by omega) (by omega)
  have hdl : (i + 1) / j ≤ i + 1 := Nat.div_le_self _ _
  have hml : (i + 1) / j * j ≤ i + 1 := Nat.div_mul_le_self _ _
  have cs := cnt_s (k := i) (r := j) (by omega)
  have zi := zo i
  have zi1 := zo (i + 1)
  have zb1 := zb (i + 1 - (i + 1) / j)
  rw [f_X3_meets_32.eq_2]
  by_cases d : i < 999
  · have e999 : 999 - i = (999 - (i + 1)) + 1 := by omega
    rw [e999] at hf
    have hf2 : meetF S.shp.1 j 999 1 = if (zig S.shp.1 (S.shp.1 - 1, -1) (i + 1)).1 = (zig S.shp.1 (0, 1) (i + 1 - (i + 1) / j)).1 then some (i + 1) else meetF S.shp.1 j (999 - (i + 1)) (i + 1 + 1) := hf
    obtain ⟨z1, hz1⟩ : ∃ z, z = (zig S.shp.1 (S.shp.1 - 1, -1) i).1 := ⟨_, rfl⟩
    obtain ⟨z2, hz2⟩ : ∃ z, z = (zig S.shp.1 (S.shp.1 - 1, -1) i).2 := ⟨_, rfl⟩
    obtain ⟨b1, hb1⟩ : ∃ z, z = (zig S.shp.1 (0, 1) (i + 1 - (i + 1) / j)).1 := ⟨_, rfl⟩
    have en : (zig S.shp.1 (S.shp.1 - 1, -1) (i + 1)).1 = z1 + z2 := by rw [hz1, hz2]; rfl
    have ew : (zig S.shp.1 (S.shp.1 - 1, -1) (i + 1)).2 = if z1 + z2 = S.shp.1 - 1 then -1 else if z1 + z2 = 0 then 1 else z2 := by rw [hz1, hz2]; rfl
    rw [← hz1, ← hz2] at zi
    rw [← hz1, ← hz2]
    rw [en] at zi1
    rw [← hb1] at zb1
    have zs : 0 ≤ z1 + z2 ∧ z1 + z2 ≤ S.shp.1 - 1 := ⟨zi1.1, zi1.2.1⟩
    have tail : ∀ σ2, RM S σ2 → Fr (KM [0]) 0 0 σ σ2 → gi σ2 161 48 = i32 b1 → gi σ2 161 49 = i32 (zig S.shp.1 (0, 1) (i + 1 - (i + 1) / j)).2 → (¬ z1 + z2 = b1 → ok (f_X3_meets_32 161 (i32 j) K m σ2 (i32 (z1 + z2)) (i32 (if z1 + z2 = S.shp.1 - 1 then -1 else if z1 + z2 = 0 then 1 else z2)) (i32 (i + 1 + 1 : Nat))) Q) ∧ (z1 + z2 = b1 → ok (K σ2 (i32 (z1 + z2)) (i32 (i + 1 : Nat))) Q) := by
      intro σ2 r2 G2 f48 f49
      rw [en, ← hb1] at hf2
      constructor
      · intro hne
        rw [if_neg hne] at hf2
        exact IH d _ _ _ _ ⟨rfl, by rw [en], by rw [ew], r2, G2, by rw [← hb1]; exact f48, f49, hf2⟩
      · intro he
        rw [if_pos he] at hf2
        have := hyes σ2 (i + 1) r2 G2 hf2
        rw [en] at this
        exact this
    clear hf hf2 IH hyes hno
    have body : ∀ σ2, RM S σ2 → Fr (KM [0]) 0 0 σ σ2 → gi σ2 161 48 = i32 b1 → gi σ2 161 49 = i32 (zig S.shp.1 (0, 1) (i + 1 - (i + 1) / j)).2 → ok (vl (i32 z1 + i32 z2) (fun v2_3 => cko σ2 161 [3] (vl (fun (y : Int32) => cko σ2 161 [3] (if ¬ v2_3 = (gi σ2 161 48) then (vl (i32 (i + 1 : Nat) + 1) (fun v4_2 => f_X3_meets_32 161 (i32 j) K m σ2 v2_3 y v4_2)) else K σ2 v2_3 (i32 (i + 1 : Nat)))) (fun k_2 => if ¬ v2_3 = ((gi σ2 161 3) - 1) then (if ¬ v2_3 = 0 then (k_2 (i32 z2)) else k_2 1) else k_2 (-1))))) Q := by
      intro σ2 r2 G2 f48 f49
      have hm2 := r2.ml
      have f3 := r2.shp.1
      obtain ⟨t1, t2⟩ := tail σ2 r2 G2 f48 f49
      clear tail
      by_cases d1 : z1 + z2 = S.shp.1 - 1
      · rw [if_pos d1] at t1
        by_cases he : z1 + z2 = b1
        · (try simp (disch := omega) only [vl_s, bp_s, bd_s, bv_s, i32_nl, i32_n, i32_add, i32_sub, i32_mul, i32_neg, i32_ca, i32_cm, i32_cs, i32_cn, i32_le, i32_lt, i32_eq, i32_cl, Int.toNat_natCast, if_pos, if_neg, ite_true, ite_false, not_true_eq_false, not_false_eq_true, Nat.add_zero, Nat.zero_add, Nat.add_sub_cancel, ck_p, cko_si, cka_si, cko_sl, cka_sl, gi_e, gi_x, gl_e, gl_x, gr_si, gl_si, gi_sl, gr_sl, cko_c hm2.k (show 3 ∈ [3] by decide), dr_c hm2.r2, dr_c hm2.r9, dr_c hm2.r10, dr_c hm2.r11, dr_c hm2.r12, dr_c hm2.r13, dr_c hm2.r14, dr_c hm2.r15, dr_c hm2.r16, dr_c hm2.r21, dr_c hm2.r23, dr_c hm2.r24, dr_c hm2.r27, dr_c hm2.r28, dr_c hm2.r30, dr_c hm2.r33, dr_c hm2.r34, dr_c hm2.r36, dr_c hm2.r37, dr_c hm2.r38, dr_c hm2.r41, dr_c hm2.r43, dr_c hm2.r44, dr_c hm2.r45, dr_c hm2.r46, dr_c hm2.r47, dr_c hm2.r50, dr_c hm2.r51, dr_c hm2.r52, cka_i hm2.k162 hm2.l162, cka_i hm2.k163 hm2.l163, cka_i hm2.k164 hm2.l164, cka_i hm2.k165 hm2.l165, cka_i hm2.k166 hm2.l166, cka_i hm2.k167 hm2.l167, cka_i hm2.k168 hm2.l168, cka_i hm2.k169 hm2.l169, cka_i hm2.k170 hm2.l170, cka_i hm2.k171 hm2.l171, cka_i hm2.k172 hm2.l172, cka_i hm2.k173 hm2.l173, cka_i hm2.k174 hm2.l174, cka_i hm2.k175 hm2.l175, cka_i hm2.k176 hm2.l176, cka_i hm2.k177 hm2.l177, cka_i hm2.k178 hm2.l178, cka_i hm2.k179 hm2.l179, cka_i hm2.k180 hm2.l180, cka_i hm2.k181 hm2.l181, cka_i hm2.k182 hm2.l182, cka_i hm2.k183 hm2.l183, cka_i hm2.k184 hm2.l184, cka_i hm2.k185 hm2.l185, cka_i hm2.k186 hm2.l186, cka_i hm2.k187 hm2.l187, cka_i hm2.k188 hm2.l188, cka_i hm2.k189 hm2.l189, cka_i hm2.k190 hm2.l190, f48, f3])
          exact t2 he
        · (try simp (disch := omega) only [vl_s, bp_s, bd_s, bv_s, i32_nl, i32_n, i32_add, i32_sub, i32_mul, i32_neg, i32_ca, i32_cm, i32_cs, i32_cn, i32_le, i32_lt, i32_eq, i32_cl, Int.toNat_natCast, if_pos, if_neg, ite_true, ite_false, not_true_eq_false, not_false_eq_true, Nat.add_zero, Nat.zero_add, Nat.add_sub_cancel, ck_p, cko_si, cka_si, cko_sl, cka_sl, gi_e, gi_x, gl_e, gl_x, gr_si, gl_si, gi_sl, gr_sl, cko_c hm2.k (show 3 ∈ [3] by decide), dr_c hm2.r2, dr_c hm2.r9, dr_c hm2.r10, dr_c hm2.r11, dr_c hm2.r12, dr_c hm2.r13, dr_c hm2.r14, dr_c hm2.r15, dr_c hm2.r16, dr_c hm2.r21, dr_c hm2.r23, dr_c hm2.r24, dr_c hm2.r27, dr_c hm2.r28, dr_c hm2.r30, dr_c hm2.r33, dr_c hm2.r34, dr_c hm2.r36, dr_c hm2.r37, dr_c hm2.r38, dr_c hm2.r41, dr_c hm2.r43, dr_c hm2.r44, dr_c hm2.r45, dr_c hm2.r46, dr_c hm2.r47, dr_c hm2.r50, dr_c hm2.r51, dr_c hm2.r52, cka_i hm2.k162 hm2.l162, cka_i hm2.k163 hm2.l163, cka_i hm2.k164 hm2.l164, cka_i hm2.k165 hm2.l165, cka_i hm2.k166 hm2.l166, cka_i hm2.k167 hm2.l167, cka_i hm2.k168 hm2.l168, cka_i hm2.k169 hm2.l169, cka_i hm2.k170 hm2.l170, cka_i hm2.k171 hm2.l171, cka_i hm2.k172 hm2.l172, cka_i hm2.k173 hm2.l173, cka_i hm2.k174 hm2.l174, cka_i hm2.k175 hm2.l175, cka_i hm2.k176 hm2.l176, cka_i hm2.k177 hm2.l177, cka_i hm2.k178 hm2.l178, cka_i hm2.k179 hm2.l179, cka_i hm2.k180 hm2.l180, cka_i hm2.k181 hm2.l181, cka_i hm2.k182 hm2.l182, cka_i hm2.k183 hm2.l183, cka_i hm2.k184 hm2.l184, cka_i hm2.k185 hm2.l185, cka_i hm2.k186 hm2.l186, cka_i hm2.k187 hm2.l187, cka_i hm2.k188 hm2.l188, cka_i hm2.k189 hm2.l189, cka_i hm2.k190 hm2.l190, f48, f3])
          exact t1 he
      · rw [if_neg d1] at t1
        by_cases d2 : z1 + z2 = 0
        · rw [if_pos d2] at t1
          by_cases he : z1 + z2 = b1
          · (try simp (disch := omega) only [vl_s, bp_s, bd_s, bv_s, i32_nl, i32_n, i32_add, i32_sub, i32_mul, i32_neg, i32_ca, i32_cm, i32_cs, i32_cn, i32_le, i32_lt, i32_eq, i32_cl, Int.toNat_natCast, if_pos, if_neg, ite_true, ite_false, not_true_eq_false, not_false_eq_true, Nat.add_zero, Nat.zero_add, Nat.add_sub_cancel, ck_p, cko_si, cka_si, cko_sl, cka_sl, gi_e, gi_x, gl_e, gl_x, gr_si, gl_si, gi_sl, gr_sl, cko_c hm2.k (show 3 ∈ [3] by decide), dr_c hm2.r2, dr_c hm2.r9, dr_c hm2.r10, dr_c hm2.r11, dr_c hm2.r12, dr_c hm2.r13, dr_c hm2.r14, dr_c hm2.r15, dr_c hm2.r16, dr_c hm2.r21, dr_c hm2.r23, dr_c hm2.r24, dr_c hm2.r27, dr_c hm2.r28, dr_c hm2.r30, dr_c hm2.r33, dr_c hm2.r34, dr_c hm2.r36, dr_c hm2.r37, dr_c hm2.r38, dr_c hm2.r41, dr_c hm2.r43, dr_c hm2.r44, dr_c hm2.r45, dr_c hm2.r46, dr_c hm2.r47, dr_c hm2.r50, dr_c hm2.r51, dr_c hm2.r52, cka_i hm2.k162 hm2.l162, cka_i hm2.k163 hm2.l163, cka_i hm2.k164 hm2.l164, cka_i hm2.k165 hm2.l165, cka_i hm2.k166 hm2.l166, cka_i hm2.k167 hm2.l167, cka_i hm2.k168 hm2.l168, cka_i hm2.k169 hm2.l169, cka_i hm2.k170 hm2.l170, cka_i hm2.k171 hm2.l171, cka_i hm2.k172 hm2.l172, cka_i hm2.k173 hm2.l173, cka_i hm2.k174 hm2.l174, cka_i hm2.k175 hm2.l175, cka_i hm2.k176 hm2.l176, cka_i hm2.k177 hm2.l177, cka_i hm2.k178 hm2.l178, cka_i hm2.k179 hm2.l179, cka_i hm2.k180 hm2.l180, cka_i hm2.k181 hm2.l181, cka_i hm2.k182 hm2.l182, cka_i hm2.k183 hm2.l183, cka_i hm2.k184 hm2.l184, cka_i hm2.k185 hm2.l185, cka_i hm2.k186 hm2.l186, cka_i hm2.k187 hm2.l187, cka_i hm2.k188 hm2.l188, cka_i hm2.k189 hm2.l189, cka_i hm2.k190 hm2.l190, f48, f3])
            exact t2 he
          · (try simp (disch := omega) only [vl_s, bp_s, bd_s, bv_s, i32_nl, i32_n, i32_add, i32_sub, i32_mul, i32_neg, i32_ca, i32_cm, i32_cs, i32_cn, i32_le, i32_lt, i32_eq, i32_cl, Int.toNat_natCast, if_pos, if_neg, ite_true, ite_false, not_true_eq_false, not_false_eq_true, Nat.add_zero, Nat.zero_add, Nat.add_sub_cancel, ck_p, cko_si, cka_si, cko_sl, cka_sl, gi_e, gi_x, gl_e, gl_x, gr_si, gl_si, gi_sl, gr_sl, cko_c hm2.k (show 3 ∈ [3] by decide), dr_c hm2.r2, dr_c hm2.r9, dr_c hm2.r10, dr_c hm2.r11, dr_c hm2.r12, dr_c hm2.r13, dr_c hm2.r14, dr_c hm2.r15, dr_c hm2.r16, dr_c hm2.r21, dr_c hm2.r23, dr_c hm2.r24, dr_c hm2.r27, dr_c hm2.r28, dr_c hm2.r30, dr_c hm2.r33, dr_c hm2.r34, dr_c hm2.r36, dr_c hm2.r37, dr_c hm2.r38, dr_c hm2.r41, dr_c hm2.r43, dr_c hm2.r44, dr_c hm2.r45, dr_c hm2.r46, dr_c hm2.r47, dr_c hm2.r50, dr_c hm2.r51, dr_c hm2.r52, cka_i hm2.k162 hm2.l162, cka_i hm2.k163 hm2.l163, cka_i hm2.k164 hm2.l164, cka_i hm2.k165 hm2.l165, cka_i hm2.k166 hm2.l166, cka_i hm2.k167 hm2.l167, cka_i hm2.k168 hm2.l168, cka_i hm2.k169 hm2.l169, cka_i hm2.k170 hm2.l170, cka_i hm2.k171 hm2.l171, cka_i hm2.k172 hm2.l172, cka_i hm2.k173 hm2.l173, cka_i hm2.k174 hm2.l174, cka_i hm2.k175 hm2.l175, cka_i hm2.k176 hm2.l176, cka_i hm2.k177 hm2.l177, cka_i hm2.k178 hm2.l178, cka_i hm2.k179 hm2.l179, cka_i hm2.k180 hm2.l180, cka_i hm2.k181 hm2.l181, cka_i hm2.k182 hm2.l182, cka_i hm2.k183 hm2.l183, cka_i hm2.k184 hm2.l184, cka_i hm2.k185 hm2.l185, cka_i hm2.k186 hm2.l186, cka_i hm2.k187 hm2.l187, cka_i hm2.k188 hm2.l188, cka_i hm2.k189 hm2.l189, cka_i hm2.k190 hm2.l190, f48, f3])
            exact t1 he
        · rw [if_neg d2] at t1
          by_cases he : z1 + z2 = b1
          · (try simp (disch := omega) only [vl_s, bp_s, bd_s, bv_s, i32_nl, i32_n, i32_add, i32_sub, i32_mul, i32_neg, i32_ca, i32_cm, i32_cs, i32_cn, i32_le, i32_lt, i32_eq, i32_cl, Int.toNat_natCast, if_pos, if_neg, ite_true, ite_false, not_true_eq_false, not_false_eq_true, Nat.add_zero, Nat.zero_add, Nat.add_sub_cancel, ck_p, cko_si, cka_si, cko_sl, cka_sl, gi_e, gi_x, gl_e, gl_x, gr_si, gl_si, gi_sl, gr_sl, cko_c hm2.k (show 3 ∈ [3] by decide), dr_c hm2.r2, dr_c hm2.r9, dr_c hm2.r10, dr_c hm2.r11, dr_c hm2.r12, dr_c hm2.r13, dr_c hm2.r14, dr_c hm2.r15, dr_c hm2.r16, dr_c hm2.r21, dr_c hm2.r23, dr_c hm2.r24, dr_c hm2.r27, dr_c hm2.r28, dr_c hm2.r30, dr_c hm2.r33, dr_c hm2.r34, dr_c hm2.r36, dr_c hm2.r37, dr_c hm2.r38, dr_c hm2.r41, dr_c hm2.r43, dr_c hm2.r44, dr_c hm2.r45, dr_c hm2.r46, dr_c hm2.r47, dr_c hm2.r50, dr_c hm2.r51, dr_c hm2.r52, cka_i hm2.k162 hm2.l162, cka_i hm2.k163 hm2.l163, cka_i hm2.k164 hm2.l164, cka_i hm2.k165 hm2.l165, cka_i hm2.k166 hm2.l166, cka_i hm2.k167 hm2.l167, cka_i hm2.k168 hm2.l168, cka_i hm2.k169 hm2.l169, cka_i hm2.k170 hm2.l170, cka_i hm2.k171 hm2.l171, cka_i hm2.k172 hm2.l172, cka_i hm2.k173 hm2.l173, cka_i hm2.k174 hm2.l174, cka_i hm2.k175 hm2.l175, cka_i hm2.k176 hm2.l176, cka_i hm2.k177 hm2.l177, cka_i hm2.k178 hm2.l178, cka_i hm2.k179 hm2.l179, cka_i hm2.k180 hm2.l180, cka_i hm2.k181 hm2.l181, cka_i hm2.k182 hm2.l182, cka_i hm2.k183 hm2.l183, cka_i hm2.k184 hm2.l184, cka_i hm2.k185 hm2.l185, cka_i hm2.k186 hm2.l186, cka_i hm2.k187 hm2.l187, cka_i hm2.k188 hm2.l188, cka_i hm2.k189 hm2.l189, cka_i hm2.k190 hm2.l190, f48, f3])
            exact t2 he
          · (try simp (disch := omega) only [vl_s, bp_s, bd_s, bv_s, i32_nl, i32_n, i32_add, i32_sub, i32_mul, i32_neg, i32_ca, i32_cm, i32_cs, i32_cn, i32_le, i32_lt, i32_eq, i32_cl, Int.toNat_natCast, if_pos, if_neg, ite_true, ite_false, not_true_eq_false, not_false_eq_true, Nat.add_zero, Nat.zero_add, Nat.add_sub_cancel, ck_p, cko_si, cka_si, cko_sl, cka_sl, gi_e, gi_x, gl_e, gl_x, gr_si, gl_si, gi_sl, gr_sl, cko_c hm2.k (show 3 ∈ [3] by decide), dr_c hm2.r2, dr_c hm2.r9, dr_c hm2.r10, dr_c hm2.r11, dr_c hm2.r12, dr_c hm2.r13, dr_c hm2.r14, dr_c hm2.r15, dr_c hm2.r16, dr_c hm2.r21, dr_c hm2.r23, dr_c hm2.r24, dr_c hm2.r27, dr_c hm2.r28, dr_c hm2.r30, dr_c hm2.r33, dr_c hm2.r34, dr_c hm2.r36, dr_c hm2.r37, dr_c hm2.r38, dr_c hm2.r41, dr_c hm2.r43, dr_c hm2.r44, dr_c hm2.r45, dr_c hm2.r46, dr_c hm2.r47, dr_c hm2.r50, dr_c hm2.r51, dr_c hm2.r52, cka_i hm2.k162 hm2.l162, cka_i hm2.k163 hm2.l163, cka_i hm2.k164 hm2.l164, cka_i hm2.k165 hm2.l165, cka_i hm2.k166 hm2.l166, cka_i hm2.k167 hm2.l167, cka_i hm2.k168 hm2.l168, cka_i hm2.k169 hm2.l169, cka_i hm2.k170 hm2.l170, cka_i hm2.k171 hm2.l171, cka_i hm2.k172 hm2.l172, cka_i hm2.k173 hm2.l173, cka_i hm2.k174 hm2.l174, cka_i hm2.k175 hm2.l175, cka_i hm2.k176 hm2.l176, cka_i hm2.k177 hm2.l177, cka_i hm2.k178 hm2.l178, cka_i hm2.k179 hm2.l179, cka_i hm2.k180 hm2.l180, cka_i hm2.k181 hm2.l181, cka_i hm2.k182 hm2.l182, cka_i hm2.k183 hm2.l183, cka_i hm2.k184 hm2.l184, cka_i hm2.k185 hm2.l185, cka_i hm2.k186 hm2.l186, cka_i hm2.k187 hm2.l187, cka_i hm2.k188 hm2.l188, cka_i hm2.k189 hm2.l189, cka_i hm2.k190 hm2.l190, f48, f3])
            exact t1 he
    have c9 : ¬ (999 : Int32) < i32 (i + 1 : Nat) := by
      rw [show (999 : Int32) = i32 999 from rfl, i32_lt (by omega) (by omega) (by omega) (by omega)]; omega
    have cj : ¬ i32 j = 0 := by
      rw [show (0 : Int32) = i32 0 from rfl, i32_eq (by omega) (by omega) (by omega) (by omega)]; omega
    have em : i32 (i + 1 : Nat) - i32 (i + 1 : Nat) / i32 j * i32 j = i32 ((i + 1 - (i + 1) / j * j : Nat) : Int) := by
      rw [hdiv, i32_mul, i32_sub, ← Int.natCast_mul, i32_cs hml]
    rw [if_neg c9]
    unfold ck
    rw [if_pos cj]
    simp only [vl_s, em]
    by_cases e : (i + 1) / j * j = i + 1
    · rw [if_pos e, Nat.add_zero] at cs
      rw [if_pos (show i32 ((i + 1 - (i + 1) / j * j : Nat) : Int) = 0 by rw [e, Nat.sub_self]; rfl)]
      have bd := body σ1 q1 F1 (by rw [hb1, cs]; exact e48) (by rw [cs]; exact e49)
      simp only [vl_s] at bd
      exact bd
    · rw [if_neg e] at cs
      rw [if_neg (show ¬ i32 ((i + 1 - (i + 1) / j * j : Nat) : Int) = 0 by rw [show (0 : Int32) = i32 0 from rfl, i32_eq (by omega) (by omega) (by omega) (by omega)]; omega)]
      rw [cko_c hm1.k (show 3 ∈ [3] by decide)]
      refine ok_bv (M_boyGoes q1 g e48 e49 (zb _)) ?_
      rintro σ2 ⟨q2, F2, f48, f49⟩
      have bd := body σ2 q2 (F1.tr0 F2) (by rw [hb1, cs]; exact f48) (by rw [cs]; exact f49)
      simp only [vl_s] at bd
      exact bd
  · have : i = 999 := by omega
    subst this
    (try simp (disch := omega) only [vl_s, bp_s, bd_s, bv_s, i32_nl, i32_n, i32_add, i32_sub, i32_mul, i32_neg, i32_ca, i32_cm, i32_cs, i32_cn, i32_le, i32_lt, i32_eq, i32_cl, Int.toNat_natCast, if_pos, if_neg, ite_true, ite_false, not_true_eq_false, not_false_eq_true, Nat.add_zero, Nat.zero_add, Nat.add_sub_cancel, ck_p, cko_si, cka_si, cko_sl, cka_sl, gi_e, gi_x, gl_e, gl_x, gr_si, gl_si, gi_sl, gr_sl])
    exact hno σ1 q1 F1 (by rw [hf]; rfl)
theorem M_meets {S : St} {σ : vMem} {B r : Int} (h : RM S σ) (g : gSt B S) (h3 : -2147483648 ≤ r) (h4 : r < 2147483648) : ok (f_X3_meets σ 161 (i32 r)) (fun q => q.1 = i32 (aMeets S r) ∧ RM (nMeets S r) q.2 ∧ FM σ q.2) := by
  have hm := h.ml
  have q0 := M_thrown h (i32 ((0 : Nat) : Int))
  have g1 : 2 ≤ S.shp.1 := g.shp.1
  have g2 : S.shp.1 ≤ 40 := g.shp.2.1
  have e3 := h.shp.1
  generalize hQ : (fun q : Int32 × vMem => q.1 = i32 (aMeets S r) ∧ RM (nMeets S r) q.2 ∧ FM σ q.2) = Q
  unfold f_X3_meets
  by_cases c2 : 2 ≤ r ∧ r ≤ 9
  · obtain ⟨j, rfl⟩ : ∃ j : Nat, r = j := ⟨r.toNat, by omega⟩
    have bb : f_X3_boyBegins (si σ 161 0 (i32 ((0 : Nat) : Int))) 161 (i32 ((0 : Nat) : Int)) (i32 ((1 : Nat) : Int)) = some (si (si (si σ 161 0 (i32 ((0 : Nat) : Int))) 161 48 (i32 ((0 : Nat) : Int))) 161 49 (i32 ((1 : Nat) : Int))) := by
      unfold f_X3_boyBegins
      (try simp (disch := omega) only [vl_s, bp_s, bd_s, bv_s, i32_nl, i32_n, i32_add, i32_sub, i32_mul, i32_neg, i32_ca, i32_cm, i32_cs, i32_cn, i32_le, i32_lt, i32_eq, i32_cl, Int.toNat_natCast, if_pos, if_neg, ite_true, ite_false, not_true_eq_false, not_false_eq_true, Nat.add_zero, Nat.zero_add, Nat.add_sub_cancel, ck_p, cko_si, cka_si, cko_sl, cka_sl, gi_e, gi_x, gl_e, gl_x, gr_si, gl_si, gi_sl, gr_sl, cko_c hm.k (show 3 ∈ [3] by decide), dr_c hm.r2, dr_c hm.r9, dr_c hm.r10, dr_c hm.r11, dr_c hm.r12, dr_c hm.r13, dr_c hm.r14, dr_c hm.r15, dr_c hm.r16, dr_c hm.r21, dr_c hm.r23, dr_c hm.r24, dr_c hm.r27, dr_c hm.r28, dr_c hm.r30, dr_c hm.r33, dr_c hm.r34, dr_c hm.r36, dr_c hm.r37, dr_c hm.r38, dr_c hm.r41, dr_c hm.r43, dr_c hm.r44, dr_c hm.r45, dr_c hm.r46, dr_c hm.r47, dr_c hm.r50, dr_c hm.r51, dr_c hm.r52, cka_i hm.k162 hm.l162, cka_i hm.k163 hm.l163, cka_i hm.k164 hm.l164, cka_i hm.k165 hm.l165, cka_i hm.k166 hm.l166, cka_i hm.k167 hm.l167, cka_i hm.k168 hm.l168, cka_i hm.k169 hm.l169, cka_i hm.k170 hm.l170, cka_i hm.k171 hm.l171, cka_i hm.k172 hm.l172, cka_i hm.k173 hm.l173, cka_i hm.k174 hm.l174, cka_i hm.k175 hm.l175, cka_i hm.k176 hm.l176, cka_i hm.k177 hm.l177, cka_i hm.k178 hm.l178, cka_i hm.k179 hm.l179, cka_i hm.k180 hm.l180, cka_i hm.k181 hm.l181, cka_i hm.k182 hm.l182, cka_i hm.k183 hm.l183, cka_i hm.k184 hm.l184, cka_i hm.k185 hm.l185, cka_i hm.k186 hm.l186, cka_i hm.k187 hm.l187, cka_i hm.k188 hm.l188, cka_i hm.k189 hm.l189, cka_i hm.k190 hm.l190])
    (try simp (disch := omega) only [vl_s, bp_s, bd_s, bv_s, i32_nl, i32_n, i32_add, i32_sub, i32_mul, i32_neg, i32_ca, i32_cm, i32_cs, i32_cn, i32_le, i32_lt, i32_eq, i32_cl, Int.toNat_natCast, if_pos, if_neg, ite_true, ite_false, not_true_eq_false, not_false_eq_true, Nat.add_zero, Nat.zero_add, Nat.add_sub_cancel, ck_p, cko_si, cka_si, cko_sl, cka_sl, gi_e, gi_x, gl_e, gl_x, gr_si, gl_si, gi_sl, gr_sl, cko_c hm.k (show 3 ∈ [3] by decide), dr_c hm.r2, dr_c hm.r9, dr_c hm.r10, dr_c hm.r11, dr_c hm.r12, dr_c hm.r13, dr_c hm.r14, dr_c hm.r15, dr_c hm.r16, dr_c hm.r21, dr_c hm.r23, dr_c hm.r24, dr_c hm.r27, dr_c hm.r28, dr_c hm.r30, dr_c hm.r33, dr_c hm.r34, dr_c hm.r36, dr_c hm.r37, dr_c hm.r38, dr_c hm.r41, dr_c hm.r43, dr_c hm.r44, dr_c hm.r45, dr_c hm.r46, dr_c hm.r47, dr_c hm.r50, dr_c hm.r51, dr_c hm.r52, cka_i hm.k162 hm.l162, cka_i hm.k163 hm.l163, cka_i hm.k164 hm.l164, cka_i hm.k165 hm.l165, cka_i hm.k166 hm.l166, cka_i hm.k167 hm.l167, cka_i hm.k168 hm.l168, cka_i hm.k169 hm.l169, cka_i hm.k170 hm.l170, cka_i hm.k171 hm.l171, cka_i hm.k172 hm.l172, cka_i hm.k173 hm.l173, cka_i hm.k174 hm.l174, cka_i hm.k175 hm.l175, cka_i hm.k176 hm.l176, cka_i hm.k177 hm.l177, cka_i hm.k178 hm.l178, cka_i hm.k179 hm.l179, cka_i hm.k180 hm.l180, cka_i hm.k181 hm.l181, cka_i hm.k182 hm.l182, cka_i hm.k183 hm.l183, cka_i hm.k184 hm.l184, cka_i hm.k185 hm.l185, cka_i hm.k186 hm.l186, cka_i hm.k187 hm.l187, cka_i hm.k188 hm.l188, cka_i hm.k189 hm.l189, cka_i hm.k190 hm.l190, X3_canRest, b01_i0, bb, e3])
    have F0 : Fr (KM [0]) 0 0 σ (si (si (si σ 161 0 (i32 ((0 : Nat) : Int))) 161 48 (i32 ((0 : Nat) : Int))) 161 49 (i32 ((1 : Nat) : Int))) := ((Fr.rf.wm 0 rfl (by decide)).wm 0 rfl (by decide)).wm 0 rfl (by decide)
    refine M_meets32 (h.u0 F0) g.shp (by omega) (by omega) ((gi_x (by omega)).trans (gi_e ⟨rfl, rfl⟩)) (gi_e ⟨rfl, rfl⟩) (fun σ1 k r1 F1 hk => ?_) (fun σ1 r1 F1 hk => ?_)
    · have hm1 := r1.ml
      (try simp (disch := omega) only [vl_s, bp_s, bd_s, bv_s, i32_nl, i32_n, i32_add, i32_sub, i32_mul, i32_neg, i32_ca, i32_cm, i32_cs, i32_cn, i32_le, i32_lt, i32_eq, i32_cl, Int.toNat_natCast, if_pos, if_neg, ite_true, ite_false, not_true_eq_false, not_false_eq_true, Nat.add_zero, Nat.zero_add, Nat.add_sub_cancel, ck_p, cko_si, cka_si, cko_sl, cka_sl, gi_e, gi_x, gl_e, gl_x, gr_si, gl_si, gi_sl, gr_sl, cko_c hm1.k (show 3 ∈ [3] by decide), dr_c hm1.r2, dr_c hm1.r9, dr_c hm1.r10, dr_c hm1.r11, dr_c hm1.r12, dr_c hm1.r13, dr_c hm1.r14, dr_c hm1.r15, dr_c hm1.r16, dr_c hm1.r21, dr_c hm1.r23, dr_c hm1.r24, dr_c hm1.r27, dr_c hm1.r28, dr_c hm1.r30, dr_c hm1.r33, dr_c hm1.r34, dr_c hm1.r36, dr_c hm1.r37, dr_c hm1.r38, dr_c hm1.r41, dr_c hm1.r43, dr_c hm1.r44, dr_c hm1.r45, dr_c hm1.r46, dr_c hm1.r47, dr_c hm1.r50, dr_c hm1.r51, dr_c hm1.r52, cka_i hm1.k162 hm1.l162, cka_i hm1.k163 hm1.l163, cka_i hm1.k164 hm1.l164, cka_i hm1.k165 hm1.l165, cka_i hm1.k166 hm1.l166, cka_i hm1.k167 hm1.l167, cka_i hm1.k168 hm1.l168, cka_i hm1.k169 hm1.l169, cka_i hm1.k170 hm1.l170, cka_i hm1.k171 hm1.l171, cka_i hm1.k172 hm1.l172, cka_i hm1.k173 hm1.l173, cka_i hm1.k174 hm1.l174, cka_i hm1.k175 hm1.l175, cka_i hm1.k176 hm1.l176, cka_i hm1.k177 hm1.l177, cka_i hm1.k178 hm1.l178, cka_i hm1.k179 hm1.l179, cka_i hm1.k180 hm1.l180, cka_i hm1.k181 hm1.l181, cka_i hm1.k182 hm1.l182, cka_i hm1.k183 hm1.l183, cka_i hm1.k184 hm1.l184, cka_i hm1.k185 hm1.l185, cka_i hm1.k186 hm1.l186, cka_i hm1.k187 hm1.l187, cka_i hm1.k188 hm1.l188, cka_i hm1.k189 hm1.l189, cka_i hm1.k190 hm1.l190])
      refine ok_bv (M_enters (M_row0 r1) (by show 0 < 40; omega) _) ?_
      rintro σ3 ⟨q3, F3⟩
      (try simp (disch := omega) only [vl_s, bp_s, bd_s, bv_s, i32_nl, i32_n, i32_add, i32_sub, i32_mul, i32_neg, i32_ca, i32_cm, i32_cs, i32_cn, i32_le, i32_lt, i32_eq, i32_cl, Int.toNat_natCast, if_pos, if_neg, ite_true, ite_false, not_true_eq_false, not_false_eq_true, Nat.add_zero, Nat.zero_add, Nat.add_sub_cancel, ck_p, cko_si, cka_si, cko_sl, cka_sl, gi_e, gi_x, gl_e, gl_x, gr_si, gl_si, gi_sl, gr_sl])
      rw [← hQ]
      unfold aMeets nMeets
      rw [if_pos c2, if_pos c2, Int.toNat_natCast, hk]
      exact ok_some ⟨rfl, q3, (((F0.tr0 F1).rsm (by decide)).tr0 (F_row0.rsm (by decide))).tr0 (F3.rsm (by decide))⟩
    · rw [← hQ]
      unfold aMeets nMeets
      rw [if_pos c2, if_pos c2, Int.toNat_natCast, hk]
      exact ok_some ⟨rfl, r1, (F0.tr0 F1).rsm (by decide)⟩
  · (try simp (disch := omega) only [vl_s, bp_s, bd_s, bv_s, i32_nl, i32_n, i32_add, i32_sub, i32_mul, i32_neg, i32_ca, i32_cm, i32_cs, i32_cn, i32_le, i32_lt, i32_eq, i32_cl, Int.toNat_natCast, if_pos, if_neg, ite_true, ite_false, not_true_eq_false, not_false_eq_true, Nat.add_zero, Nat.zero_add, Nat.add_sub_cancel, ck_p, cko_si, cka_si, cko_sl, cka_sl, gi_e, gi_x, gl_e, gl_x, gr_si, gl_si, gi_sl, gr_sl, cko_c hm.k (show 3 ∈ [3] by decide), dr_c hm.r2, dr_c hm.r9, dr_c hm.r10, dr_c hm.r11, dr_c hm.r12, dr_c hm.r13, dr_c hm.r14, dr_c hm.r15, dr_c hm.r16, dr_c hm.r21, dr_c hm.r23, dr_c hm.r24, dr_c hm.r27, dr_c hm.r28, dr_c hm.r30, dr_c hm.r33, dr_c hm.r34, dr_c hm.r36, dr_c hm.r37, dr_c hm.r38, dr_c hm.r41, dr_c hm.r43, dr_c hm.r44, dr_c hm.r45, dr_c hm.r46, dr_c hm.r47, dr_c hm.r50, dr_c hm.r51, dr_c hm.r52, cka_i hm.k162 hm.l162, cka_i hm.k163 hm.l163, cka_i hm.k164 hm.l164, cka_i hm.k165 hm.l165, cka_i hm.k166 hm.l166, cka_i hm.k167 hm.l167, cka_i hm.k168 hm.l168, cka_i hm.k169 hm.l169, cka_i hm.k170 hm.l170, cka_i hm.k171 hm.l171, cka_i hm.k172 hm.l172, cka_i hm.k173 hm.l173, cka_i hm.k174 hm.l174, cka_i hm.k175 hm.l175, cka_i hm.k176 hm.l176, cka_i hm.k177 hm.l177, cka_i hm.k178 hm.l178, cka_i hm.k179 hm.l179, cka_i hm.k180 hm.l180, cka_i hm.k181 hm.l181, cka_i hm.k182 hm.l182, cka_i hm.k183 hm.l183, cka_i hm.k184 hm.l184, cka_i hm.k185 hm.l185, cka_i hm.k186 hm.l186, cka_i hm.k187 hm.l187, cka_i hm.k188 hm.l188, cka_i hm.k189 hm.l189, cka_i hm.k190 hm.l190, X3_canRest, b01_i0])
    rw [← hQ]
    unfold aMeets nMeets
    rw [if_neg c2, if_neg c2]
    exact ok_some ⟨rfl, q0, FM_thrown⟩
