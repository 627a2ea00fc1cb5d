/-! TEXTS: signs that come -/
theorem n_sub {i j : Nat} (h : j ≤ i) : Int32.ofNat i - Int32.ofNat j = Int32.ofNat (i - j) := by
  have h1 : Int32.ofNat i = Int32.ofNat (i - j) + Int32.ofNat j := by rw [n_add, Nat.sub_add_cancel h]
  rw [h1, Int32.add_sub_cancel]
/-- the k-th sign of four -/
def sgn (x : Int32) (k : Nat) : Int32 := (x >>> (Int32.ofNat (24 - 8 * k) &&& 31)) &&& 255
theorem X3_sign {σ : vMem} (h : ML σ) {t : Nat} (ht : gi σ 161 17 = Int32.ofNat t) (ht2 : t ≤ 80) (x : Int32) : f_X3_sign σ 161 x = some (if t ≤ 76 then (Int32.ofNat (t + 4), wI σ (setA (setA σ.1 170 (cpf (σ.1 170) t 4 (sgn x))) 161 (up1 (up1 (σ.1 161) 0 0) 17 (Int32.ofNat (t + 4))))) else (-1, wI σ (setA σ.1 161 (up1 (σ.1 161) 0 0)))) := by
  have e0 : up1 (σ.1 161) 0 0 17 = Int32.ofNat t := ht
  unfold f_X3_sign
  simp only [vl, cko_c h.k (show 3 ∈ [3] by decide), si_wI, cko_wI, gi_wI, setA_same, e0]
  by_cases hc : t ≤ 76
  · rw [if_pos hc, if_pos (by rw [show (76 : Int32) = Int32.ofNat 76 from rfl, n_le (by omega) (by omega)]; exact hc)]
    have hk : ok (f_X3_sign_18 161 x (fun σ_1 => cko σ_1 161 [3] (cko σ_1 161 [3] (cko (wI σ_1 (setA σ_1.1 161 (up1 (σ_1.1 161) 17 (gi σ_1 161 17 + 4)))) 161 [3] (some (gi (wI σ_1 (setA σ_1.1 161 (up1 (σ_1.1 161) 17 (gi σ_1 161 17 + 4)))) 161 17, wI σ_1 (setA σ_1.1 161 (up1 (σ_1.1 161) 17 (gi σ_1 161 17 + 4)))))))) FU (wI σ (setA σ.1 161 (up1 (σ.1 161) 0 0))) (Int32.ofNat 0)) (fun r => r = (Int32.ofNat (t + 4), wI σ (setA (setA σ.1 170 (cpf (σ.1 170) t 4 (sgn x))) 161 (up1 (up1 (σ.1 161) 0 0) 17 (Int32.ofNat (t + 4)))))) := by
      refine loop_inv (R := 4) (P := fun i σ' => σ' = wI σ (setA (setA σ.1 161 (up1 (σ.1 161) 0 0)) 170 (cpf (σ.1 170) t i (sgn x)))) (fun n a ha => ?_) (fun n a i hi ha => ?_) 4 0 _ FU (by omega) (by unfold FU; omega) ?_
      · subst ha
        rw [f_X3_sign_18.eq_2, if_pos (by decide)]
        simp only [cko_wI, cko_c h.k (show 3 ∈ [3] by decide), gi_wI, wI_1, wI_wI, setA_ne _ _ (show (161 : Nat) ≠ 170 by decide), setA_same, up1_same, e0]
        refine ⟨_, rfl, ?_⟩
        rw [show (4 : Int32) = Int32.ofNat 4 from rfl, n_add, setA_comm σ.1 (up1 (σ.1 161) 0 0) _ (show (161 : Nat) ≠ 170 by decide), setA_setA]
      · subst ha
        rw [f_X3_sign_18.eq_2]
        have h2 : ¬ (4 : Int32) ≤ Int32.ofNat i := by rw [show (4 : Int32) = Int32.ofNat 4 from rfl, n_le (by omega) (by omega)]; omega
        refine ⟨_, ?_, rfl⟩
        rw [if_neg h2]
        have e1 : (wI σ (setA (setA σ.1 161 (up1 (σ.1 161) 0 0)) 170 (cpf (σ.1 170) t i (sgn x)))).1 161 17 = Int32.ofNat t := by
          rw [wI_1, setA_ne _ _ (show (161 : Nat) ≠ 170 by decide), setA_same]; exact e0
        simp only [vl, cko_wI, cka_wI, gr_wI, cko_c h.k (show 3 ∈ [3] by decide), dr_c h.r16, gi_def, e1, n_add]
        rw [cka_n h.k170 h.l170 (by omega) (by omega), n_cl (by omega), si_wI, wI_1, wI_wI, setA_same, setA_setA, n_succ]
        rw [show (24 : Int32) - 8 * Int32.ofNat i = Int32.ofNat (24 - 8 * i) by rw [show (8 : Int32) = Int32.ofNat 8 from rfl, n_mul, show (24 : Int32) = Int32.ofNat 24 from rfl, n_sub (by omega)]]
        rw [← cpf_up]
        rfl
      · rw [cpf_0]
        have e9 : setA (setA σ.1 161 (up1 (σ.1 161) 0 0)) 170 (σ.1 170) = setA σ.1 161 (up1 (σ.1 161) 0 0) := by
          rw [setA_comm _ _ _ (show (161 : Nat) ≠ 170 by decide), setA_id]
        rw [e9]
    obtain ⟨r, h1, h2⟩ := hk
    rw [h2] at h1
    exact h1
  · rw [if_neg hc, if_neg (by rw [show (76 : Int32) = Int32.ofNat 76 from rfl, n_le (by omega) (by omega)]; exact hc)]
