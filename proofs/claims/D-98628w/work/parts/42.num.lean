/-! NUMBERS AND LOOPS -/
theorem n_succ (i : Nat) : Int32.ofNat i + 1 = Int32.ofNat (i + 1) := by
  rw [Int32.ofNat_add]; rfl
theorem n_toInt {i : Nat} (h : i < 2147483648) : (Int32.ofNat i).toInt = i := Int32.toInt_ofNat_of_lt h
theorem n_le {i j : Nat} (hi : i < 2147483648) (hj : j < 2147483648) : (Int32.ofNat i ≤ Int32.ofNat j) ↔ i ≤ j := by
  rw [Int32.le_iff_toInt_le, n_toInt hi, n_toInt hj]; omega
theorem n_lt {i j : Nat} (hi : i < 2147483648) (hj : j < 2147483648) : (Int32.ofNat i < Int32.ofNat j) ↔ i < j := by
  rw [Int32.lt_iff_toInt_lt, n_toInt hi, n_toInt hj]; omega
theorem n_cl {i : Nat} (h : i < 2147483648) : (Int32.ofNat i).toNatClampNeg = i := by
  rw [Int32.toNatClampNeg, n_toInt h]; rfl
theorem n_in {i n : Nat} (h : i < n) (hn : n < 2147483648) : ¬ (Int32.ofNat i < 0 ∨ n ≤ (Int32.ofNat i).toNatClampNeg) := by
  rw [n_cl (by omega)]
  rintro (h1 | h1)
  · have h2 : Int32.ofNat i < Int32.ofNat 0 := h1
    rw [n_lt (by omega) (by omega)] at h2
    omega
  · omega
theorem cka_n {α : Type} {σ : vMem} {a k n i : Nat} {t : Option α} (hk : knd σ a = k) (hl : len σ a = n) (h : i < n) (hn : n < 2147483648) : cka σ a k (Int32.ofNat i) t = t := by
  unfold cka
  rw [if_pos ⟨hk, by rw [hl]; exact n_in h hn⟩]
theorem cka_c {α : Type} {σ : vMem} {a k n : Nat} {c : Int32} {t : Option α} (hk : knd σ a = k) (hl : len σ a = n) (h : ¬ (c < 0 ∨ n ≤ c.toNatClampNeg)) : cka σ a k c t = t := by
  unfold cka
  rw [if_pos ⟨hk, by rw [hl]; exact h⟩]
theorem cko_c {α : Type} {σ : vMem} {a k : Nat} {S : List Nat} {t : Option α} (hk : knd σ a = k) (h : k ∈ S) : cko σ a S t = t := by
  unfold cko
  rw [if_pos (by rw [hk]; exact h)]
theorem dr_c {α : Type} {o : Option Nat} {a : Nat} {f : Nat → Option α} (h : o = some a) : dr o f = f a := by
  subst h; rfl
/-- n rounds from i on -/
def itr {α : Type} : Nat → (Nat → α → α) → Nat → α → α
  | 0, _, _, a => a
  | n + 1, f, i, a => itr n f (i + 1) (f i a)
theorem loop_itr {α β : Type} {F : Nat → α → Int32 → Option β} {R : Nat} {g : Nat → α → α} {out : α → β} (hend : ∀ n a, F (n + 1) a (Int32.ofNat R) = some (out a)) (hstep : ∀ n a i, i < R → F (n + 1) a (Int32.ofNat i) = F n (g i a) (Int32.ofNat (i + 1))) : ∀ (n i : Nat) (a : α) (fuel : Nat), i + n = R → n < fuel → F fuel a (Int32.ofNat i) = some (out (itr n g i a))
  | 0, i, a, fuel, h, hf => by
    obtain ⟨f, rfl⟩ : ∃ f, fuel = f + 1 := ⟨fuel - 1, by omega⟩
    have : i = R := by omega
    subst this
    exact hend f a
  | n + 1, i, a, fuel, h, hf => by
    obtain ⟨f, rfl⟩ : ∃ f, fuel = f + 1 := ⟨fuel - 1, by omega⟩
    rw [hstep f a i (by omega)]
    exact loop_itr hend hstep n (i + 1) (g i a) f (by omega) (by omega)
/-- so often a rock is there -/
def hitsF (R : Nat) (mile lane : Nat → Int32) (s l : Int32) : Int32 := itr R (fun k n => n + if mile k = s ∧ lane k = l then 1 else 0) 0 0
theorem X3_flag {σ : vMem} {x : Int32} : f_X3_flag σ x = some (if x = 0 then 0 else 1) := by
  unfold f_X3_flag
  split <;> rfl
theorem X3_hitsAt {σ : vMem} (h : ML σ) {R : Nat} (hR : gi σ 161 6 = Int32.ofNat R) (hR2 : R ≤ 16) (s l : Int32) : f_X3_hitsAt σ 161 s l = some (hitsF R (gi σ 165) (gi σ 166) s l) := by
  unfold f_X3_hitsAt
  refine loop_itr (F := f_X3_hitsAt_5 σ 161 s l) (g := fun k n => n + if gi σ 165 k = s ∧ gi σ 166 k = l then 1 else 0) (out := fun n => n) (R := R) (fun n a => ?_) (fun n a i hi => ?_) R 0 0 FU (by omega) (by unfold FU; omega)
  · rw [f_X3_hitsAt_5.eq_2]
    simp [cko, h.k, hR]
  · rw [f_X3_hitsAt_5.eq_2]
    have h2 : ¬ Int32.ofNat R ≤ Int32.ofNat i := by rw [n_le (by omega) (by omega)]; omega
    rw [cko_c h.k (by decide), hR, if_neg h2, cko_c h.k (by decide), dr_c h.r11, cka_n h.k165 h.l165 (show i < 16 by omega) (by omega)]
    simp only [vl, X3_flag, bp, cko_c h.k (show 3 ∈ [3] by decide), dr_c h.r12, cka_n h.k166 h.l166 (show i < 16 by omega) (by omega), n_cl (show i < 2147483648 by omega), n_succ]
    by_cases e1 : gi σ 165 i = s <;> by_cases e2 : gi σ 166 i = l <;> simp [e1, e2]
