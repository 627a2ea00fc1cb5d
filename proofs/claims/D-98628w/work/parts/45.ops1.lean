/-! SMALL FUNCTIONS of the objects -/
theorem X3_isMess {σ : vMem} (h : ML σ) {m : Int32} : f_X3_isMess σ 161 m = some (b01 (0 ≤ m.toInt ∧ m.toInt ≤ (gi σ 161 7 - 1).toInt)) := by
  unfold f_X3_isMess
  rw [cko_c h.k (by decide), X3_in]
  simp only [bp, Int32.toInt_toInt64]
  rw [show (0 : Int64).toInt = 0 from rfl]
  unfold ck
  rw [if_pos b01_n]
theorem X1_isMess {σ : vMem} (h : CL σ) {m : Int32} : f_X1_isMess σ 0 m = some (b01 (0 ≤ m.toInt ∧ m.toInt ≤ (gi σ 0 12 - 1).toInt)) := by
  unfold f_X1_isMess
  rw [cko_c h.k (by decide), X1_in]
  simp only [bp, Int32.toInt_toInt64]
  rw [show (0 : Int64).toInt = 0 from rfl]
  unfold ck
  rw [if_pos b01_n]
/-- a number told: the row longer by one -/
theorem X3_enters {σ : vMem} (h : ML σ) {r : Nat} (hr : gi σ 161 1 = Int32.ofNat r) (hr2 : r < 40) (v : Int64) : f_X3_enters σ 161 v = some (wI (wJ σ (setA σ.2.1 162 (up1 (σ.2.1 162) r v))) (setA σ.1 161 (up1 (σ.1 161) 1 (Int32.ofNat (r + 1))))) := by
  unfold f_X3_enters
  rw [cko_c h.k (by decide), dr_c h.r2, cko_c h.k (by decide), hr, cka_n h.k162 h.l162 hr2 (by omega), n_cl (by omega), sl_wJ]
  simp only [vl, cko_wJ, cko_c h.k (show 3 ∈ [3] by decide), gi_wJ, hr, n_succ, si_wI, wJ_1]
theorem X1_tell {σ : vMem} (h : CL σ) {r : Nat} (hr : gi σ 0 18 = Int32.ofNat r) (hr2 : r < 40) (v : Int64) : f_X1_tell σ 0 v = some (wI (wJ σ (setA σ.2.1 22 (up1 (σ.2.1 22) r v))) (setA σ.1 0 (up1 (σ.1 0) 18 (Int32.ofNat (r + 1))))) := by
  unfold f_X1_tell
  rw [cko_c h.k (by decide), dr_c h.r17, cko_c h.k (by decide), hr, cka_n h.k22 h.l22 hr2 (by omega), n_cl (by omega), sl_wJ]
  simp only [vl, cko_wJ, cko_c h.k (show 1 ∈ [1] by decide), gi_wJ, hr, n_succ, si_wI, wJ_1]
theorem X1_hitsAt {σ : vMem} (h : CL σ) {R : Nat} (hR : gi σ 0 11 = Int32.ofNat R) (hR2 : R ≤ 16) (s l : Int32) : f_X1_hitsAt σ 0 s l = some (hitsF R (gi σ 18) (gi σ 19) s l) := by
  unfold f_X1_hitsAt
  refine loop_itr (F := f_X1_hitsAt_5 σ 0 s l) (g := fun k n => n + if gi σ 18 k = s ∧ gi σ 19 k = l then 1 else 0) (out := fun n => n) (R := R) (fun n a => ?_) (fun n a i hi => ?_) R 0 0 FU (by omega) (by unfold FU; omega)
  · rw [f_X1_hitsAt_5.eq_2]
    simp [cko, h.k, hR]
  · rw [f_X1_hitsAt_5.eq_2]
    have h2 : ¬ Int32.ofNat R ≤ Int32.ofNat i := by rw [n_le (by omega) (by omega)]; omega
    rw [cko_c h.k (by decide), hR, if_neg h2, cko_c h.k (by decide), dr_c h.r5, cka_n h.k18 h.l18 (show i < 16 by omega) (by omega)]
    simp only [vl, bp, cko_c h.k (show 1 ∈ [1] by decide), dr_c h.r6, cka_n h.k19 h.l19 (show i < 16 by omega) (by omega), n_cl (show i < 2147483648 by omega), n_succ]
    by_cases e1 : gi σ 18 i = s <;> by_cases e2 : gi σ 19 i = l <;> simp [e1, e2]
