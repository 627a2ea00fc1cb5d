/-! WATCHES -/
/-- a watch at w, its arrays behind it; by references and shapes alone -/
def WL (σ : vMem) (w : Nat) : Prop := knd σ w = 2 ∧ gr σ w 0 = some (w + 1) ∧ gr σ w 1 = some (w + 2) ∧ gr σ w 2 = some (w + 3) ∧ gr σ w 3 = some (w + 4) ∧ σ.2.2.2.1 (w + 1) = (105, 8) ∧ σ.2.2.2.1 (w + 2) = (105, 8) ∧ σ.2.2.2.1 (w + 3) = (105, 12) ∧ σ.2.2.2.1 (w + 4) = (105, 12)
section WLS
variable {σ : vMem} {w : Nat}
theorem WL.k (h : WL σ w) : knd σ w = 2 := h.1
theorem WL.r0 (h : WL σ w) : gr σ w 0 = some (w + 1) := h.2.1
theorem WL.r1 (h : WL σ w) : gr σ w 1 = some (w + 2) := h.2.2.1
theorem WL.r2 (h : WL σ w) : gr σ w 2 = some (w + 3) := h.2.2.2.1
theorem WL.r3 (h : WL σ w) : gr σ w 3 = some (w + 4) := h.2.2.2.2.1
theorem WL.k1 (h : WL σ w) : knd σ (w + 1) = 105 := by unfold knd; rw [h.2.2.2.2.2.1]
theorem WL.k2 (h : WL σ w) : knd σ (w + 2) = 105 := by unfold knd; rw [h.2.2.2.2.2.2.1]
theorem WL.k3 (h : WL σ w) : knd σ (w + 3) = 105 := by unfold knd; rw [h.2.2.2.2.2.2.2.1]
theorem WL.k4 (h : WL σ w) : knd σ (w + 4) = 105 := by unfold knd; rw [h.2.2.2.2.2.2.2.2]
theorem WL.l1 (h : WL σ w) : len σ (w + 1) = 8 := by unfold len; rw [h.2.2.2.2.2.1]
theorem WL.l2 (h : WL σ w) : len σ (w + 2) = 8 := by unfold len; rw [h.2.2.2.2.2.2.1]
theorem WL.l3 (h : WL σ w) : len σ (w + 3) = 12 := by unfold len; rw [h.2.2.2.2.2.2.2.1]
theorem WL.l4 (h : WL σ w) : len σ (w + 4) = 12 := by unfold len; rw [h.2.2.2.2.2.2.2.2]
end WLS
theorem σ2_W1 : WL σ2 1 := by unfold WL; decide +kernel
theorem σ2_W6 : WL σ2 6 := by unfold WL; decide +kernel
theorem σ2_W11 : WL σ2 11 := by unfold WL; decide +kernel
theorem σ2_WA : ∀ k, k < 15 → WL σ2 (86 + 5 * k) ∧ gr σ2 16 k = some (86 + 5 * k) := by unfold WL; decide +kernel
theorem cpi_wI (σ : vMem) (a sp b dp n : Nat) : cpi σ a sp b dp n = wI σ (setA σ.1 b (cpf (σ.1 b) dp n (fun j => σ.1 a (sp + j)))) := by
  unfold cpi wI
  congr 1
  funext x j
  unfold setA cpf
  by_cases h : x = b
  · subst h; simp
  · simp [h]
theorem n_nn {i : Nat} (h : i < 2147483648) : ¬ Int32.ofNat i < 0 := by
  rw [show (0 : Int32) = Int32.ofNat 0 from rfl, n_lt h (by omega)]; omega
theorem cpyI_c {α : Type} {σ : vMem} {a b sp dp n la lb : Nat} {f : vMem → Option α} (h1 : knd σ a = 105) (h2 : knd σ b = 105) (h3 : len σ a = la) (h4 : len σ b = lb) (h5 : sp + n ≤ la) (h6 : dp + n ≤ lb) (h7 : la < 2147483648) (h8 : lb < 2147483648) : cpyI σ a (Int32.ofNat sp) b (Int32.ofNat dp) (Int32.ofNat n) f = f (wI σ (setA σ.1 b (cpf (σ.1 b) dp n (fun j => σ.1 a (sp + j))))) := by
  unfold cpyI
  rw [n_cl (by omega), n_cl (by omega), n_cl (by omega), if_pos ⟨⟨h1, h2⟩, n_nn (by omega), n_nn (by omega), n_nn (by omega), by omega, by omega⟩, cpi_wI]
theorem cpyI_w {α : Type} {σ : vMem} {I : Nat → Nat → Int32} {a b sp dp n la lb : Nat} {f : vMem → Option α} (h1 : knd σ a = 105) (h2 : knd σ b = 105) (h3 : len σ a = la) (h4 : len σ b = lb) (h5 : sp + n ≤ la) (h6 : dp + n ≤ lb) (h7 : la < 2147483648) (h8 : lb < 2147483648) : cpyI (wI σ I) a (Int32.ofNat sp) b (Int32.ofNat dp) (Int32.ofNat n) f = f (wI σ (setA I b (cpf (I b) dp n (fun j => I a (sp + j))))) := cpyI_c (σ := wI σ I) h1 h2 h3 h4 h5 h6 h7 h8
