/-! THE MODEL'S ACTS: rocks that can be cleared -/
set_option maxRecDepth 100000
/-- a set of lanes moved -/
def movP (p : Nat → Bool) (w : Int) (l : Nat) : Bool := (List.range 9).any (fun m => p m && decide (clW m w = l))
theorem moved_σ (σ τ : vMem) (x v : Int32) : ∀ (n : Nat) (a b : Int32), f_X3_moved_4 σ x v n a b = f_X3_moved_4 τ x v n a b
  | 0, _, _ => rfl
  | n + 1, a, b => by
    rw [f_X3_moved_4.eq_2, f_X3_moved_4.eq_2]
    have ih := moved_σ σ τ x v n
    simp only [vl_s, ih]
    rfl
theorem moved_512 : ∀ b : Fin 512, ∀ w : Fin 3, f_X3_moved σ0 (bitsI (inS b) 9) (i32 ((w : Nat) - 1 : Int)) = some (bitsI (movP (inS b) ((w : Nat) - 1 : Int)) 9) := by decide +kernel
theorem X3_moved {σ : vMem} {p : Nat → Bool} {w : Int} (h1 : -1 ≤ w) (h2 : w ≤ 1) : f_X3_moved σ (bitsI p 9) (i32 w) = some (bitsI (movP p w) 9) := by
  obtain ⟨b1, b2⟩ := natB_9 p
  have e1 : bitsI p 9 = bitsI (inS (natB p 9)) 9 := bitsI_eq (fun i hi => (b2 i hi).symm)
  have e2 : bitsI (movP p w) 9 = bitsI (movP (inS (natB p 9)) w) 9 := bitsI_eq (fun i _ => by
    unfold movP
    rw [Bool.eq_iff_iff, List.any_eq_true, List.any_eq_true]
    constructor
    · rintro ⟨m, hm, h⟩
      exact ⟨m, hm, by rw [b2 m (List.mem_range.mp hm)]; exact h⟩
    · rintro ⟨m, hm, h⟩
      exact ⟨m, hm, by rw [b2 m (List.mem_range.mp hm)] at h; exact h⟩)
  have e3 := moved_512 ⟨natB p 9, b1⟩ ⟨(w + 1).toNat, by omega⟩
  have e4 : ((((w + 1).toNat : Nat) : Int) - 1) = w := by omega
  simp only at e3
  rw [e4] at e3
  rw [e1, e2, ← e3]
  exact moved_σ σ σ0 _ _ FU _ _
