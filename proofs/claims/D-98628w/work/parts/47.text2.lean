/-! TEXTS: the component's side -/
/-- the k-th sign of four, as a byte -/
def sgb (x : Int32) (k : Nat) : Int32 := vp_nar .byte ((Int32.toInt8 (x >>> (Int32.ofNat (24 - 8 * k) &&& 31))).toInt32)
theorem n_cnt (i : Nat) (h : i < 4) : Int32.ofNat 24 - 8 * Int32.ofNat i + (-8) = Int32.ofNat 24 - 8 * Int32.ofNat (i + 1) := by
  have : i = 0 ∨ i = 1 ∨ i = 2 ∨ i = 3 := by omega
  rcases this with rfl | rfl | rfl | rfl <;> decide
theorem X1_sign {σ : vMem} (h : CL σ) {t : Nat} (ht : gi σ 0 16 = Int32.ofNat t) (ht2 : t ≤ 80) (x : Int32) : f_X1_sign σ 0 x = some (if t ≤ 76 then (Int32.ofNat (t + 4), wI σ (setA (setA σ.1 21 (cpf (σ.1 21) t 4 (sgb x))) 0 (up1 (σ.1 0) 16 (Int32.ofNat (t + 4))))) else (-1, σ)) := by
  unfold f_X1_sign
  rw [cko_c h.k (by decide), ht, show (4 : Int32) = Int32.ofNat 4 from rfl, n_add]
  by_cases hc : t ≤ 76
  · rw [if_pos hc, if_pos (by rw [show (80 : Int32) = Int32.ofNat 80 from rfl, n_le (by omega) (by omega)]; omega)]
    refine ok_eq ?_
    refine loop_ex (F := fun n (a : vMem × Int32) => f_X1_sign_16 0 x (fun σ_1 => cko σ_1 0 [1] (some ((gi σ_1 0 16), σ_1))) n a.1 a.2) (R := 4) (P := fun i a => a = (wI σ (setA (setA σ.1 21 (cpf (σ.1 21) t i (sgb x))) 0 (up1 (σ.1 0) 16 (Int32.ofNat (t + i)))), Int32.ofNat 24 - 8 * Int32.ofNat i)) (fun n a ha => ?_) (fun n a i hi ha => Or.inr ?_) 4 0 (σ, 24) FU (by omega) (by unfold FU; omega) ?_
    · subst ha
      show ok (f_X1_sign_16 _ _ _ _ _ _) _
      rw [f_X1_sign_16.eq_2, if_pos (show Int32.ofNat 24 - 8 * Int32.ofNat 4 < 0 by decide)]
      simp only [cko_wI, cko_c h.k (show 1 ∈ [1] by decide), gi_wI, setA_same, up1_same]
      exact ⟨_, rfl, rfl⟩
    · subst ha
      refine ⟨(_, _), ?_, rfl⟩
      show f_X1_sign_16 _ _ _ _ _ _ = f_X1_sign_16 _ _ _ _ _ _
      have h2 : ¬ (Int32.ofNat 24 - 8 * Int32.ofNat i) < 0 := by
        have : i = 0 ∨ i = 1 ∨ i = 2 ∨ i = 3 := by omega
        rcases this with rfl | rfl | rfl | rfl <;> decide
      have h3 : Int32.ofNat 24 - 8 * Int32.ofNat i = Int32.ofNat (24 - 8 * i) := by
        rw [show (8 : Int32) = Int32.ofNat 8 from rfl, n_mul, n_sub (by omega)]
      rw [f_X1_sign_16.eq_2, if_neg h2]
      simp only [vl, cko_wI, cka_wI, gr_wI, cko_c h.k (show 1 ∈ [1] by decide), dr_c h.r15, gi_wI, setA_same, up1_same]
      rw [cka_n h.k21 h.l21 (by omega) (by omega), n_cl (by omega), n_cnt i hi, h3]
      simp only [cko_wI, cko_c h.k (show 1 ∈ [1] by decide), si_wI, wI_1, wI_wI, gi_wI, setA_ne _ _ (show (0 : Nat) ≠ 21 by decide), setA_ne _ _ (show (21 : Nat) ≠ 0 by decide), setA_same, up1_same, up1_up1, n_succ]
      have e1 : setA (setA (setA (setA σ.1 21 (cpf (σ.1 21) t i (sgb x))) 0 (up1 (σ.1 0) 16 (Int32.ofNat (t + i)))) 21 (up1 (cpf (σ.1 21) t i (sgb x)) (t + i) (sgb x i))) 0 (up1 (σ.1 0) 16 (Int32.ofNat (t + i + 1))) = setA (setA σ.1 21 (cpf (σ.1 21) t (i + 1) (sgb x))) 0 (up1 (σ.1 0) 16 (Int32.ofNat (t + (i + 1)))) := by
        rw [cpf_up, setA_comm _ _ _ (show (0 : Nat) ≠ 21 by decide), setA_setA, setA_setA]
        rfl
      rw [← e1]
      rfl
    · have e1 : setA (setA σ.1 21 (cpf (σ.1 21) t 0 (sgb x))) 0 (up1 (σ.1 0) 16 (Int32.ofNat (t + 0))) = σ.1 := by
        have e2 : up1 (σ.1 0) 16 (Int32.ofNat t) = σ.1 0 := by
          funext j
          unfold up1
          by_cases hj : j = 16
          · subst hj; rw [if_pos rfl]; exact ht.symm
          · rw [if_neg hj]
        rw [cpf_0, setA_id, Nat.add_zero, e2, setA_id]
      rw [e1, wI_self]
      rfl
  · rw [if_neg hc, if_neg (by rw [show (80 : Int32) = Int32.ofNat 80 from rfl, n_le (by omega) (by omega)]; omega)]
theorem X3_end {σ : vMem} (h : ML σ) {t : Nat} (ht : gi σ 161 17 = Int32.ofNat t) (ht2 : t ≤ 80) (n : Int32) : f_X3_end σ 161 n = some (if 0 ≤ n.toInt ∧ n.toInt ≤ t then (1, wI σ (setA σ.1 161 (up1 (up1 (σ.1 161) 0 0) 17 n))) else (0, wI σ (setA σ.1 161 (up1 (σ.1 161) 0 0)))) := by
  have e0 : up1 (σ.1 161) 0 0 17 = Int32.ofNat t := ht
  unfold f_X3_end
  simp only [vl, cko_c h.k (show 3 ∈ [3] by decide), si_wI, cko_wI, gi_wI, setA_same, e0, X3_in, bp, Int32.toInt_toInt64, n_toInt (show t < 2147483648 by omega), b01_0, wI_1, wI_wI, setA_setA]
  rw [show (0 : Int64).toInt = 0 from rfl]
  by_cases hc : 0 ≤ n.toInt ∧ n.toInt ≤ (t : Int)
  · rw [if_pos hc, if_pos (fun q => q hc)]
  · rw [if_neg hc, if_neg (fun q => q hc)]
theorem X1_end {σ : vMem} (h : CL σ) {t : Nat} (ht : gi σ 0 16 = Int32.ofNat t) (ht2 : t ≤ 80) (n : Int32) : f_X1_end σ 0 n = some (if 0 ≤ n.toInt ∧ n.toInt ≤ t then (1, wI σ (setA σ.1 0 (up1 (σ.1 0) 16 n))) else (0, σ)) := by
  unfold f_X1_end
  simp only [vl, cko_c h.k (show 1 ∈ [1] by decide), si_wI, ht, X1_in, bp, Int32.toInt_toInt64, n_toInt (show t < 2147483648 by omega), b01_0]
  rw [show (0 : Int64).toInt = 0 from rfl]
  by_cases hc : 0 ≤ n.toInt ∧ n.toInt ≤ (t : Int)
  · rw [if_pos hc, if_pos (fun q => q hc)]
  · rw [if_neg hc, if_neg (fun q => q hc)]
