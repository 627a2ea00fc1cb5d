/-! BITS -/
def popc : Nat → Nat → Nat
  | 0, _ => 0
  | n + 1, b => b % 2 + popc n (b / 2)
theorem bitCount_any (σ τ : vMem) (x : Int32) : f_J7_bitCount σ x = f_J7_bitCount τ x := rfl
theorem bitCount_1024 : ∀ b, b < 1024 → f_J7_bitCount σ0 (Int32.ofNat b) = some (Int32.ofNat (popc 10 b)) := by decide +kernel
theorem bitCount {σ : vMem} {b : Nat} (h : b < 1024) : f_J7_bitCount σ (Int32.ofNat b) = some (Int32.ofNat (popc 10 b)) := (bitCount_any σ σ0 _).trans (bitCount_1024 b h)
