/-! WHOLE NUMBERS behind ints -/
def i32 (z : Int) : Int32 := Int32.ofInt z
theorem i32_add (a b : Int) : i32 a + i32 b = i32 (a + b) := (Int32.ofInt_add a b).symm
theorem i32_sub (a b : Int) : i32 a - i32 b = i32 (a - b) := (Int32.ofInt_sub a b).symm
theorem i32_mul (a b : Int) : i32 a * i32 b = i32 (a * b) := (Int32.ofInt_mul a b).symm
theorem i32_neg (a : Int) : -i32 a = i32 (-a) := (Int32.ofInt_neg a).symm
theorem i32_n (n : Nat) : Int32.ofNat n = i32 n := Int32.ofInt_eq_ofNat.symm
theorem i32_lit (n : Nat) : (OfNat.ofNat n : Int32) = i32 (OfNat.ofNat n : Int) := Int32.ofInt_eq_ofNat.symm
theorem i32_toInt {z : Int} (h1 : -2147483648 ≤ z) (h2 : z < 2147483648) : (i32 z).toInt = z := Int32.toInt_ofInt_of_le (by omega) (by omega)
theorem i32_le {a b : Int} (h1 : -2147483648 ≤ a) (h2 : a < 2147483648) (h3 : -2147483648 ≤ b) (h4 : b < 2147483648) : (i32 a ≤ i32 b) ↔ a ≤ b := by
  rw [Int32.le_iff_toInt_le, i32_toInt h1 h2, i32_toInt h3 h4]
theorem i32_lt {a b : Int} (h1 : -2147483648 ≤ a) (h2 : a < 2147483648) (h3 : -2147483648 ≤ b) (h4 : b < 2147483648) : (i32 a < i32 b) ↔ a < b := by
  rw [Int32.lt_iff_toInt_lt, i32_toInt h1 h2, i32_toInt h3 h4]
theorem i32_eq {a b : Int} (h1 : -2147483648 ≤ a) (h2 : a < 2147483648) (h3 : -2147483648 ≤ b) (h4 : b < 2147483648) : (i32 a = i32 b) ↔ a = b := by
  rw [← Int32.toInt_inj, i32_toInt h1 h2, i32_toInt h3 h4]
theorem i32_cl {a : Int} (h1 : -2147483648 ≤ a) (h2 : a < 2147483648) : (i32 a).toNatClampNeg = a.toNat := by
  rw [Int32.toNatClampNeg, i32_toInt h1 h2]
theorem i32_cln {k : Nat} (h : k < 2147483648) : (i32 (k : Int)).toNatClampNeg = k := by
  rw [i32_cl (by omega) (by omega), Int.toNat_natCast]
theorem i32_self (x : Int32) : i32 x.toInt = x := Int32.ofInt_toInt x
theorem ex32 (x : Int32) : ∃ z : Int, -2147483648 ≤ z ∧ z < 2147483648 ∧ x = i32 z := ⟨x.toInt, by have := x.le_toInt; omega, by have := x.toInt_lt; omega, (i32_self x).symm⟩
theorem i32_64 {a : Int} (h1 : -2147483648 ≤ a) (h2 : a < 2147483648) : (Int32.toInt64 (i32 a)).toInt = a := by
  rw [Int32.toInt_toInt64, i32_toInt h1 h2]
theorem i32_div {a b : Int} (h1 : 0 ≤ a) (h2 : a < 2147483648) (h3 : 0 < b) (h4 : b < 2147483648) : i32 a / i32 b = i32 (a / b) := by
  have h := Int32.ofInt_tdiv (a := a) (b := b) (by rw [Int32.toInt_minValue]; omega) (by rw [Int32.toInt_maxValue]; omega) (by rw [Int32.toInt_minValue]; omega) (by rw [Int32.toInt_maxValue]; omega)
  rw [Int.tdiv_eq_ediv_of_nonneg h1] at h
  exact h.symm
theorem imax_i {a b : Int} (h1 : -2147483648 ≤ a) (h2 : a < 2147483648) (h3 : -2147483648 ≤ b) (h4 : b < 2147483648) : imax (i32 a) (i32 b) = i32 (max a b) := by
  unfold imax
  simp only [i32_lt h1 h2 h3 h4]
  split
  · rw [Int.max_eq_right (by omega)]
  · rw [Int.max_eq_left (by omega)]
theorem imin_i {a b : Int} (h1 : -2147483648 ≤ a) (h2 : a < 2147483648) (h3 : -2147483648 ≤ b) (h4 : b < 2147483648) : imin (i32 a) (i32 b) = i32 (min a b) := by
  unfold imin
  simp only [i32_lt h3 h4 h1 h2]
  split
  · rw [Int.min_eq_right (by omega)]
  · rw [Int.min_eq_left (by omega)]
theorem iabs_i {a : Int} (h1 : -2147483648 < a) (h2 : a < 2147483648) : iabs (i32 a) = i32 (a.natAbs : Int) := by
  unfold iabs
  rw [show (0 : Int32) = i32 0 from rfl, i32_sub]
  simp only [i32_le (show (-2147483648 : Int) ≤ 0 by omega) (show (0 : Int) < 2147483648 by omega) (show -2147483648 ≤ a by omega) h2]
  split
  · congr 1; omega
  · congr 1; omega
/-- the check of an index -/
theorem cka_i {α : Type} {σ : vMem} {a k n : Nat} {z : Int} {t : Option α} (hk : knd σ a = k) (hl : len σ a = n) (h : 0 ≤ z) (h2 : z < n) (hn : n < 2147483648) : cka σ a k (i32 z) t = t := by
  have e : ¬ (i32 z < 0 ∨ len σ a ≤ (i32 z).toNatClampNeg) := by
    have e1 : ¬ i32 z < i32 0 := by rw [i32_lt (by omega) (by omega) (by omega) (by omega)]; omega
    have e2 : (i32 z).toNatClampNeg = z.toNat := i32_cl (by omega) (by omega)
    rw [e2, hl]
    rintro (q | q)
    · exact e1 q
    · omega
  unfold cka
  rw [if_pos ⟨hk, e⟩]
