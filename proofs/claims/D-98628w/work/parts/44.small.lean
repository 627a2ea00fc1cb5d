/-! SMALL FUNCTIONS -/
theorem lg_cases (a b : Int64) : (b.toInt < a.toInt ∧ lg_cmp a b = 1) ∨ (a = b ∧ lg_cmp a b = 0) ∨ (a.toInt < b.toInt ∧ lg_cmp a b = -1) := by
  unfold lg_cmp
  by_cases h : a > b
  · exact Or.inl ⟨Int64.lt_iff_toInt_lt.mp h, by rw [if_pos h]⟩
  · rw [if_neg h]
    have h1 : ¬ b.toInt < a.toInt := fun q => h (Int64.lt_iff_toInt_lt.mpr q)
    by_cases h2 : a = b
    · exact Or.inr (Or.inl ⟨h2, by rw [if_pos h2]⟩)
    · have h3 : a.toInt ≠ b.toInt := fun q => h2 (Int64.toInt_inj.mp q)
      exact Or.inr (Or.inr ⟨by omega, by rw [if_neg h2]⟩)
theorem lg_lt {a b : Int64} : lg_cmp a b < 0 ↔ a.toInt < b.toInt := by
  rcases lg_cases a b with ⟨h, e⟩ | ⟨h, e⟩ | ⟨h, e⟩
  · rw [e]; constructor
    · intro q; exact absurd q (by decide)
    · intro q; omega
  · subst h; rw [e]; constructor
    · intro q; exact absurd q (by decide)
    · intro q; omega
  · rw [e]; exact ⟨fun _ => h, fun _ => by decide⟩
theorem lg_gt {a b : Int64} : 0 < lg_cmp a b ↔ b.toInt < a.toInt := by
  rcases lg_cases a b with ⟨h, e⟩ | ⟨h, e⟩ | ⟨h, e⟩
  · rw [e]; exact ⟨fun _ => h, fun _ => by decide⟩
  · subst h; rw [e]; constructor
    · intro q; exact absurd q (by decide)
    · intro q; omega
  · rw [e]; constructor
    · intro q; exact absurd q (by decide)
    · intro q; omega
/-- 1 or 0 -/
def b01 (c : Prop) [Decidable c] : Int32 := if c then 1 else 0
theorem b01_t {c : Prop} [Decidable c] (h : c) : b01 c = 1 := if_pos h
theorem b01_f {c : Prop} [Decidable c] (h : ¬ c) : b01 c = 0 := if_neg h
theorem b01_0 {c : Prop} [Decidable c] : b01 c = 0 ↔ ¬ c := by
  unfold b01
  by_cases h : c <;> simp [h]
theorem b01_n {c : Prop} [Decidable c] : narrow .boolean (.int (b01 c)) = .int (b01 c) := by
  unfold b01
  by_cases h : c <;> simp [h] <;> rfl
theorem X1_in {σ : vMem} {x a b : Int64} : f_X1_in σ x a b = some (b01 (a.toInt ≤ x.toInt ∧ x.toInt ≤ b.toInt)) := by
  unfold f_X1_in b01
  simp only [vl, lg_lt, lg_gt]
  by_cases h1 : x.toInt < a.toInt
  · rw [if_pos h1, if_neg (by omega)]
  · rw [if_neg h1]
    by_cases h2 : b.toInt < x.toInt
    · rw [if_pos h2, if_neg (by omega)]
    · rw [if_neg h2, if_pos (by omega)]
theorem X3_in {σ : vMem} {x a b : Int64} : f_X3_in σ x a b = some (b01 (a.toInt ≤ x.toInt ∧ x.toInt ≤ b.toInt)) := X1_in (σ := σ)
