/-! a watch made like another one -/
def beI (I : Nat → Nat → Int32) (a b : Nat) : Nat → Nat → Int32 :=
  setA (setA (setA (setA (setA I (a + 1) (cpf (I (a + 1)) 0 8 (I (b + 1)))) (a + 2) (cpf (I (a + 2)) 0 8 (I (b + 2)))) (a + 3) (cpf (I (a + 3)) 0 12 (I (b + 3)))) (a + 4) (cpf (I (a + 4)) 0 12 (I (b + 4)))) a (up1 (up1 (up1 (up1 (up1 (I a) 4 (I b 4)) 5 (I b 5)) 6 (I b 6)) 7 (I b 7)) 8 (I b 8))
theorem X2_be {σ : vMem} {a b : Nat} (ha : WL σ a) (hb : WL σ b) (hab : a + 4 < b ∨ b + 4 < a) : f_X2_be σ a b = some (wI σ (beI σ.1 a b)) := by
  unfold f_X2_be
  rw [cko_c hb.k (by decide), dr_c hb.r0, cko_c ha.k (by decide), dr_c ha.r0]
  rw [show (8 : Int32) = Int32.ofNat 8 from rfl, show (12 : Int32) = Int32.ofNat 12 from rfl, show (0 : Int32) = Int32.ofNat 0 from rfl]
  rw [cpyI_c hb.k1 ha.k1 hb.l1 ha.l1 (by omega) (by omega) (by omega) (by omega)]
  simp only [cko_wI, gr_wI, cko_c hb.k (show 2 ∈ [2] by decide), cko_c ha.k (show 2 ∈ [2] by decide), dr_c hb.r1, dr_c ha.r1, wI_1]
  rw [cpyI_w hb.k2 ha.k2 hb.l2 ha.l2 (by omega) (by omega) (by omega) (by omega)]
  simp only [cko_wI, gr_wI, wI_wI, cko_c hb.k (show 2 ∈ [2] by decide), cko_c ha.k (show 2 ∈ [2] by decide), dr_c hb.r2, dr_c ha.r2, wI_1]
  rw [cpyI_w hb.k3 ha.k3 hb.l3 ha.l3 (by omega) (by omega) (by omega) (by omega)]
  simp only [cko_wI, gr_wI, wI_wI, cko_c hb.k (show 2 ∈ [2] by decide), cko_c ha.k (show 2 ∈ [2] by decide), dr_c hb.r3, dr_c ha.r3, wI_1]
  rw [cpyI_w hb.k4 ha.k4 hb.l4 ha.l4 (by omega) (by omega) (by omega) (by omega)]
  simp only [vl, cko_wI, gr_wI, gi_wI, wI_wI, si_wI, wI_1, cko_c hb.k (show 2 ∈ [2] by decide), cko_c ha.k (show 2 ∈ [2] by decide)]
  have n1 : ∀ i k, i < 5 → k < 5 → a + i ≠ b + k := fun i k h1 h2 h => by omega
  have m0 : ∀ k, k < 5 → b + k ≠ a := fun k h1 h => by omega
  have m1 : ∀ i k, i < 5 → k < 5 → b + k ≠ a + i := fun i k h1 h2 h => by omega
  have m2 : ∀ i, i < 5 → b ≠ a + i := fun i h1 h => by omega
  have m3 : b ≠ a := by omega
  refine congrArg some (congrArg (wI σ) ?_)
  unfold beI
  simp (config := {decide := true}) [setA, up1, m0, m1, m2, m3]
  simp only [setA_setA]
