/-! THE MODEL'S ROWS: orders that are due -/
set_option maxRecDepth 100000
theorem gi_e {σ : vMem} {a k b j : Nat} {v : Int32} (h : b = a ∧ j = k) : gi (si σ a k v) b j = v := if_pos h
theorem gi_x {σ : vMem} {a k b j : Nat} {v : Int32} (h : ¬ (b = a ∧ j = k)) : gi (si σ a k v) b j = gi σ b j := if_neg h
theorem gl_e {σ : vMem} {a k b j : Nat} {v : Int64} (h : b = a ∧ j = k) : gl (sl σ a k v) b j = v := if_pos h
theorem gl_x {σ : vMem} {a k b j : Nat} {v : Int64} (h : ¬ (b = a ∧ j = k)) : gl (sl σ a k v) b j = gl σ b j := if_neg h
theorem gr_e {σ : vMem} {a k b j : Nat} {v : Option Nat} (h : b = a ∧ j = k) : gr (sr σ a k v) b j = v := if_pos h
theorem gr_x {σ : vMem} {a k b j : Nat} {v : Option Nat} (h : ¬ (b = a ∧ j = k)) : gr (sr σ a k v) b j = gr σ b j := if_neg h
theorem i32_nl (n : Nat) : (OfNat.ofNat n : Int32) = i32 ((OfNat.ofNat n : Nat) : Int) := Int32.ofInt_eq_ofNat.symm
theorem i32_ca (a b : Nat) : i32 ((a : Int) + (b : Int)) = i32 ((a + b : Nat) : Int) := (rfl)
theorem i32_cm (a b : Nat) : i32 ((a : Int) * (b : Int)) = i32 ((a * b : Nat) : Int) := (rfl)
theorem i32_cs {a b : Nat} (h : b ≤ a) : i32 ((a : Int) - (b : Int)) = i32 ((a - b : Nat) : Int) := by rw [Int.ofNat_sub h]
theorem i32_cn {a b : Nat} (h : b ≤ a) : i32 ((a : Int) + -(b : Int)) = i32 ((a - b : Nat) : Int) := by rw [Int.ofNat_sub h]; rfl
theorem ck_p {α : Type} {c : Prop} [Decidable c] {t : Option α} (h : c) : ck c t = t := if_pos h
def clampI (z : Int) : Int := max 0 (min 8 z)
theorem clampI_b (z : Int) : 0 ≤ clampI z ∧ clampI z ≤ 8 := by unfold clampI; omega
theorem X3_put {σ : vMem} {z : Int} (h1 : -2147483648 ≤ z) (h2 : z < 2147483648) : f_X3_put σ (i32 z) = some (i32 (clampI z)) := by
  unfold f_X3_put clampI
  rw [show (8 : Int32) = i32 8 from rfl, show (0 : Int32) = i32 0 from rfl, imin_i (by omega) (by omega) h1 h2, imax_i (by omega) (by omega) (by omega) (by omega)]
theorem X1_clamp {σ : vMem} {z : Int} (h1 : -2147483648 ≤ z) (h2 : z < 2147483648) : f_X1_clamp σ (i32 z) = some (i32 (clampI z)) := X3_put (σ := σ) h1 h2
def dueL (now : Int) (l : List Od) (lane : Int) : Int := l.foldl (fun a q => if q.1 = now then clampI (a + q.2.1) else a) lane
def leftL (now : Int) (l : List Od) : List Od := l.filter (fun q => decide (q.1 ≠ now))
def OrdAt (f : Nat → Int32) (k : Nat) (q : Od) : Prop := f (5 + 3 * k) = i32 q.1 ∧ f (5 + 3 * k + 1) = i32 q.2.1 ∧ f (5 + 3 * k + 2) = i32 q.2.2
theorem take_snoc {α : Type} {l : List α} {k : Nat} {q : α} (h : l[k]? = some q) : l.take (k + 1) = l.take k ++ [q] := by
  rw [List.take_add_one, h]
  rfl
theorem X3_dd49 {a j k : Nat} {K : vMem → Option vMem} {σ : vMem} {v : Int32} (hk : knd σ a = 105) (hl : len σ a = 57) (hj : j ≤ k) (hk2 : k < 12) : f_X3_doesDue_49 a (i32 j) v (i32 (5 + 3 * k : Nat)) K FU σ 0 = K (si (si (si σ a (5 + 3 * j) (gi σ a (5 + 3 * k))) a (5 + 3 * j + 1) (gi σ a (5 + 3 * k + 1))) a (5 + 3 * j + 2) (gi σ a (5 + 3 * k + 2))) := by
  rw [show FU = 1048572 + 1 + 1 + 1 + 1 from rfl, f_X3_doesDue_49.eq_2]
  simp (disch := omega) only [vl_s, i32_nl, i32_add, i32_mul, i32_ca, i32_cm, i32_le, if_neg, cka_i hk hl, i32_cln]
  rw [f_X3_doesDue_49.eq_2]
  simp (disch := omega) only [vl_s, i32_nl, i32_add, i32_mul, i32_ca, i32_cm, i32_le, if_neg, cka_si, cka_i hk hl, i32_cln]
  rw [f_X3_doesDue_49.eq_2]
  simp (disch := omega) only [vl_s, i32_nl, i32_add, i32_mul, i32_ca, i32_cm, i32_le, if_neg, cka_si, cka_i hk hl, i32_cln]
  rw [f_X3_doesDue_49.eq_2]
  simp (disch := omega) only [vl_s, i32_nl, i32_add, i32_mul, i32_ca, i32_cm, i32_le, if_pos, cka_si, cka_i hk hl, i32_cln, gi_x]
  rfl
theorem dueL_snoc (now : Int) (l : List Od) (q : Od) (lane : Int) : dueL now (l ++ [q]) lane = if q.1 = now then clampI (dueL now l lane + q.2.1) else dueL now l lane := by
  unfold dueL
  rw [List.foldl_append]
  rfl
theorem dueL_b (now : Int) (l : List Od) (lane : Int) (h1 : 0 ≤ lane) (h2 : lane ≤ 8) : 0 ≤ dueL now l lane ∧ dueL now l lane ≤ 8 := by
  induction l generalizing lane with
  | nil => exact ⟨h1, h2⟩
  | cons q l ih =>
    have e : dueL now (q :: l) lane = dueL now l (if q.1 = now then clampI (lane + q.2.1) else lane) := rfl
    rw [e]
    split
    · exact ih _ (clampI_b _).1 (clampI_b _).2
    · exact ih _ h1 h2
theorem leftL_snoc (now : Int) (l : List Od) (q : Od) : leftL now (l ++ [q]) = if q.1 = now then leftL now l else leftL now l ++ [q] := by
  unfold leftL
  rw [List.filter_append]
  by_cases h : q.1 = now
  · simp [h]
  · simp [h]
theorem leftL_len (now : Int) (l : List Od) : (leftL now l).length ≤ l.length := List.length_filter_le _ _
theorem snoc_get {α : Type} {l : List α} {x q : α} {j : Nat} (h : (l ++ [x])[j]? = some q) : l[j]? = some q ∨ (j = l.length ∧ q = x) := by
  rw [List.getElem?_append] at h
  split at h
  · exact Or.inl h
  · rename_i h1
    have h2 : j - l.length = 0 := by
      by_cases h3 : j - l.length = 0
      · exact h3
      · rw [List.getElem?_eq_none (by simp; omega)] at h; cases h
    rw [h2] at h
    exact Or.inr ⟨by omega, (Option.some.inj h).symm⟩
theorem X3_dd4 {a : Nat} {K : vMem → Int32 → Option vMem} {Q : vMem → Prop} {σ : vMem} {W : Wt} (hk : knd σ a = 105) (hl : len σ a = 57) (h : RowIs W (gi σ a)) (hw : W.ways.length ≤ 12) (hn1 : 0 ≤ W.now) (hn2 : W.now ≤ 1000000) (hl1 : 0 ≤ W.lane) (hl2 : W.lane ≤ 8) (hq : ∀ q ∈ W.ways, 0 ≤ q.1 ∧ q.1 ≤ 1000100 ∧ -1 ≤ q.2.1 ∧ q.2.1 ≤ 1)
    (hK : ∀ σ', Fr (fun b _ => b ≠ a) 0 0 σ σ' → gi σ' a 0 = i32 W.now → gi σ' a 1 = i32 (dueL W.now W.ways W.lane) → gi σ' a 2 = W.hits → gi σ' a 4 = i32 W.given → (∀ j q, (leftL W.now W.ways)[j]? = some q → OrdAt (gi σ' a) j q) → (∀ j, 41 ≤ j → gi σ' a j = gi σ a j) → ok (K σ' (i32 (leftL W.now W.ways).length)) Q) : ok (f_X3_doesDue_4 a K FU σ 0 0) Q := by
  refine loop3 (F := f_X3_doesDue_4 a K) W.ways.length (fun k σ1 v1 v2 => v2 = i32 k ∧ v1 = i32 (leftL W.now (W.ways.take k)).length ∧ knd σ1 a = 105 ∧ len σ1 a = 57 ∧ Fr (fun b _ => b ≠ a) 0 0 σ σ1 ∧ gi σ1 a 0 = i32 W.now ∧ gi σ1 a 1 = i32 (dueL W.now (W.ways.take k) W.lane) ∧ gi σ1 a 2 = W.hits ∧ gi σ1 a 3 = i32 W.ways.length ∧ gi σ1 a 4 = i32 W.given ∧ (∀ j q, (leftL W.now (W.ways.take k))[j]? = some q → OrdAt (gi σ1 a) j q) ∧ (∀ j q, k ≤ j → W.ways[j]? = some q → OrdAt (gi σ1 a) j q) ∧ (∀ j, 41 ≤ j → gi σ1 a j = gi σ a j)) ?_ FU 0 σ 0 0 (Nat.zero_le _) ?_ (by unfold FU; omega)
  · rintro n k σ1 v1 v2 hk2 ⟨h1, h2, h3, h4, h5, h6, h7, h8, h9, h10, h11, h12, h13⟩ IH
    subst h1 h2
    have hll := leftL_len W.now (W.ways.take k)
    have hlt : (W.ways.take k).length ≤ k := List.length_take_le _ _
    rw [f_X3_doesDue_4.eq_2]
    by_cases hc : k < W.ways.length
    · obtain ⟨q, hq0⟩ : ∃ q, W.ways[k]? = some q := ⟨W.ways[k], List.getElem?_eq_getElem hc⟩
      obtain ⟨q1, q2, q3⟩ := h12 k q (Nat.le_refl _) hq0
      have hqb := hq q (List.mem_of_getElem? hq0)
      have hd := dueL_b W.now (W.ways.take k) W.lane hl1 hl2
      simp (disch := omega) only [vl_s, bp_s, bd_s, bv_s, i32_nl, i32_n, i32_add, i32_sub, i32_mul, i32_neg, i32_ca, i32_cm, i32_cs, i32_cn, i32_le, i32_lt, i32_eq, i32_cl, Int.toNat_natCast, if_pos, if_neg, ite_true, ite_false, not_true_eq_false, not_false_eq_true, Nat.add_zero, Nat.zero_add, Nat.add_sub_cancel, ck_p, cka_i h3 h4, h9]
      by_cases hd2 : q.1 = W.now
      · rw [if_neg (by rw [q1, h6, hd2]; exact fun q => q rfl)]
        simp (disch := omega) only [vl_s, bp_s, bd_s, bv_s, i32_nl, i32_n, i32_add, i32_sub, i32_mul, i32_neg, i32_ca, i32_cm, i32_cs, i32_cn, i32_le, i32_lt, i32_eq, i32_cl, Int.toNat_natCast, if_pos, if_neg, ite_true, ite_false, not_true_eq_false, not_false_eq_true, Nat.add_zero, Nat.zero_add, Nat.add_sub_cancel, ck_p, h7, q2, X3_put]
        refine IH hc _ _ _ ⟨rfl, ?_, h3, h4, h5.wi (by omega), ?_⟩
        · rw [take_snoc hq0, leftL_snoc, if_pos hd2]
        · rw [take_snoc hq0, leftL_snoc, dueL_snoc, if_pos hd2, if_pos hd2]
          refine ⟨?_, ?_, ?_, ?_, ?_, fun j q hj => ?_, fun j q hj hj2 => ?_, fun j hj => ?_⟩
          all_goals try simp (disch := omega) only [cko_si, cka_si, cko_sl, cka_sl, gi_e, gi_x, gl_e, gl_x, gr_si, gl_si, gi_sl, gr_sl, OrdAt]
          · exact h6
          · exact h8
          · exact h9
          · exact h10
          · exact h11 j q hj
          · exact h12 j q (by omega) hj2
          · exact h13 j hj
      · rw [if_pos (by rw [q1, h6, i32_eq (by omega) (by omega) (by omega) (by omega)]; exact hd2)]
        rw [show (i32 ((0 : Nat) : Int)) = 0 from rfl, X3_dd49 h3 h4 (by omega) (by omega)]
        refine IH hc _ _ _ ⟨rfl, ?_, h3, h4, ((h5.wi (by omega)).wi (by omega)).wi (by omega), ?_⟩
        · rw [take_snoc hq0, leftL_snoc, if_neg hd2, List.length_append]; rfl
        · rw [take_snoc hq0, leftL_snoc, dueL_snoc, if_neg hd2, if_neg hd2]
          refine ⟨?_, ?_, ?_, ?_, ?_, fun j q' hj => ?_, fun j q' hj hj2 => ?_, fun j hj => ?_⟩
          · simp (disch := omega) only [cko_si, cka_si, cko_sl, cka_sl, gi_e, gi_x, gl_e, gl_x, gr_si, gl_si, gi_sl, gr_sl]; exact h6
          · simp (disch := omega) only [cko_si, cka_si, cko_sl, cka_sl, gi_e, gi_x, gl_e, gl_x, gr_si, gl_si, gi_sl, gr_sl]; exact h7
          · simp (disch := omega) only [cko_si, cka_si, cko_sl, cka_sl, gi_e, gi_x, gl_e, gl_x, gr_si, gl_si, gi_sl, gr_sl]; exact h8
          · simp (disch := omega) only [cko_si, cka_si, cko_sl, cka_sl, gi_e, gi_x, gl_e, gl_x, gr_si, gl_si, gi_sl, gr_sl]; exact h9
          · simp (disch := omega) only [cko_si, cka_si, cko_sl, cka_sl, gi_e, gi_x, gl_e, gl_x, gr_si, gl_si, gi_sl, gr_sl]; exact h10
          · rcases snoc_get hj with hj | ⟨rfl, rfl⟩
            · have hj3 : j < (leftL W.now (W.ways.take k)).length := (List.getElem?_eq_some_iff.mp hj).1
              simp (disch := omega) only [cko_si, cka_si, cko_sl, cka_sl, gi_e, gi_x, gl_e, gl_x, gr_si, gl_si, gi_sl, gr_sl, OrdAt]
              exact h11 j q' hj
            · simp (disch := omega) only [cko_si, cka_si, cko_sl, cka_sl, gi_e, gi_x, gl_e, gl_x, gr_si, gl_si, gi_sl, gr_sl, OrdAt]
              exact ⟨q1, q2, q3⟩
          · simp (disch := omega) only [cko_si, cka_si, cko_sl, cka_sl, gi_e, gi_x, gl_e, gl_x, gr_si, gl_si, gi_sl, gr_sl, OrdAt]
            exact h12 j q' (by omega) hj2
          · have hlw : W.ways.length ≤ 12 := hw
            simp (disch := omega) only [cko_si, cka_si, cko_sl, cka_sl, gi_e, gi_x, gl_e, gl_x, gr_si, gl_si, gi_sl, gr_sl]
            exact h13 j hj
    · have hke : k = W.ways.length := by omega
      subst hke
      simp (disch := omega) only [vl_s, bp_s, bd_s, bv_s, i32_nl, i32_n, i32_add, i32_sub, i32_mul, i32_neg, i32_ca, i32_cm, i32_cs, i32_cn, i32_le, i32_lt, i32_eq, i32_cl, Int.toNat_natCast, if_pos, if_neg, ite_true, ite_false, not_true_eq_false, not_false_eq_true, Nat.add_zero, Nat.zero_add, Nat.add_sub_cancel, ck_p, cka_i h3 h4, h9]
      rw [List.take_length] at *
      exact hK σ1 h5 h6 h7 h8 h10 h11 h13
  · exact ⟨rfl, rfl, hk, hl, Fr.rf, h.1, h.2.1, h.2.2.1, h.2.2.2.1, h.2.2.2.2.1, fun j q hj => by simp [leftL] at hj, fun j q _ hj => h.2.2.2.2.2.1 j q hj, fun _ _ => rfl⟩
