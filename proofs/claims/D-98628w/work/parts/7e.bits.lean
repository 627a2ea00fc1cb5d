/-! SETS as bits -/
set_option maxRecDepth 100000
theorem bit_1 : ∀ l, l < 16 → ∀ i, i < 32 → (i32 ((1 : Nat) : Int) <<< (i32 (l : Nat) &&& i32 ((31 : Nat) : Int))).toBitVec.getLsbD i = decide (i = l) := by decide +kernel
theorem bit_0 (i : Nat) : (i32 ((0 : Nat) : Int)).toBitVec.getLsbD i = false := by
  show (0#32).getLsbD i = false
  exact BitVec.getLsbD_zero
theorem bitsI_bit (p : Nat → Bool) : ∀ n, n ≤ 16 → ∀ i, i < 32 → (bitsI p n).toBitVec.getLsbD i = (decide (i < n) && p i)
  | 0, _, i, _ => by
    show (i32 ((0 : Nat) : Int)).toBitVec.getLsbD i = _
    rw [bit_0, decide_eq_false (by omega), Bool.false_and]
  | n + 1, h, i, hi => by
    have ih := bitsI_bit p n (by omega) i hi
    show (bitsI p n ||| (if p n then i32 ((1 : Nat) : Int) <<< (i32 n &&& i32 ((31 : Nat) : Int)) else i32 ((0 : Nat) : Int))).toBitVec.getLsbD i = _
    rw [Int32.toBitVec_or, BitVec.getLsbD_or, ih]
    cases hp : p n with
    | true =>
      rw [if_pos rfl, bit_1 n (by omega) i hi]
      by_cases e : i = n
      · subst e
        rw [decide_eq_true rfl, Bool.or_true, decide_eq_true (by omega), hp]; rfl
      · rw [decide_eq_false e, Bool.or_false]
        congr 1
        rw [decide_eq_decide]; omega
    | false =>
      rw [if_neg (by decide), bit_0, Bool.or_false]
      by_cases e : i = n
      · subst e
        rw [decide_eq_false (by omega), hp, Bool.and_false, Bool.and_false]
      · congr 1
        rw [decide_eq_decide]; omega
theorem i32_ext {x y : Int32} (h : ∀ i, i < 32 → x.toBitVec.getLsbD i = y.toBitVec.getLsbD i) : x = y := Int32.toBitVec_inj.mp (BitVec.eq_of_getLsbD_eq h)
theorem bitsI_eq {p q : Nat → Bool} {n : Nat} (h : ∀ i, i < n → p i = q i) : bitsI p n = bitsI q n := by
  induction n with
  | zero => rfl
  | succ n ih =>
    show bitsI p n ||| (if p n then _ else _) = bitsI q n ||| (if q n then _ else _)
    rw [ih (fun i hi => h i (by omega)), h n (by omega)]
theorem bitsI_or (p q : Nat → Bool) {n : Nat} (hn : n ≤ 16) : bitsI p n ||| bitsI q n = bitsI (fun i => p i || q i) n := by
  refine i32_ext (fun i hi => ?_)
  rw [Int32.toBitVec_or, BitVec.getLsbD_or, bitsI_bit p n hn i hi, bitsI_bit q n hn i hi, bitsI_bit _ n hn i hi, Bool.and_or_distrib_left]
theorem bitsI_add (p : Nat → Bool) {n k : Nat} (hn : n ≤ 16) (hk : k < n) : bitsI p n ||| (i32 ((1 : Nat) : Int) <<< (i32 k &&& i32 ((31 : Nat) : Int))) = bitsI (fun i => p i || decide (i = k)) n := by
  refine i32_ext (fun i hi => ?_)
  rw [Int32.toBitVec_or, BitVec.getLsbD_or, bitsI_bit p n hn i hi, bit_1 k (by omega) i hi, bitsI_bit _ n hn i hi]
  by_cases e : i = k
  · subst e
    rw [decide_eq_true rfl, Bool.or_true, Bool.or_true, decide_eq_true hk]; rfl
  · rw [decide_eq_false e, Bool.or_false, Bool.or_false]
theorem bit_m1 : ∀ i, i < 32 → (i32 (-1)).toBitVec.getLsbD i = true := by decide +kernel
theorem bitsI_less (p q : Nat → Bool) {n : Nat} (hn : n ≤ 16) : bitsI p n &&& (bitsI q n ^^^ i32 (-1)) = bitsI (fun i => p i && !q i) n := by
  refine i32_ext (fun i hi => ?_)
  rw [Int32.toBitVec_and, BitVec.getLsbD_and, Int32.toBitVec_xor, BitVec.getLsbD_xor, bitsI_bit p n hn i hi, bitsI_bit q n hn i hi, bit_m1 i hi, bitsI_bit _ n hn i hi]
  by_cases e : i < n
  · rw [decide_eq_true e]; cases p i <;> cases q i <;> rfl
  · rw [decide_eq_false e]; cases q i <;> rfl
/-- whether a set holds another one than k -/
theorem bitsI_oth (p : Nat → Bool) {k : Nat} (hk : k < 9) : (bitsI p 9 &&& ((i32 ((1 : Nat) : Int) <<< (i32 k &&& i32 ((31 : Nat) : Int))) ^^^ i32 (-1)) = i32 ((0 : Nat) : Int)) ↔ ∀ l, l < 9 → p l = true → l = k := by
  constructor
  · intro h l hl hp
    have : (bitsI p 9 &&& ((i32 ((1 : Nat) : Int) <<< (i32 k &&& i32 ((31 : Nat) : Int))) ^^^ i32 (-1))).toBitVec.getLsbD l = (i32 ((0 : Nat) : Int)).toBitVec.getLsbD l := by rw [h]
    rw [Int32.toBitVec_and, BitVec.getLsbD_and, Int32.toBitVec_xor, BitVec.getLsbD_xor, bitsI_bit p 9 (by decide) l (by omega), bit_m1 l (by omega), bit_1 k (by omega) l (by omega), bit_0, decide_eq_true hl, hp] at this
    by_cases e : l = k
    · exact e
    · rw [decide_eq_false e] at this; cases this
  · intro h
    refine i32_ext (fun i hi => ?_)
    rw [Int32.toBitVec_and, BitVec.getLsbD_and, Int32.toBitVec_xor, BitVec.getLsbD_xor, bitsI_bit p 9 (by decide) i hi, bit_m1 i hi, bit_1 k (by omega) i hi, bit_0]
    by_cases e : i < 9
    · cases hp : p i with
      | true => rw [h i e hp, decide_eq_true rfl]; cases decide (k < 9) <;> rfl
      | false => rw [Bool.and_false, Bool.false_and]
    · rw [decide_eq_false e, Bool.false_and, Bool.false_and]
/-- a set as a number -/
def natB (p : Nat → Bool) : Nat → Nat
  | 0 => 0
  | n + 1 => natB p n + if p n then 2 ^ n else 0
theorem natB_9 (p : Nat → Bool) : natB p 9 < 512 ∧ ∀ l, l < 9 → inS (natB p 9) l = p l := by
  have key : ∀ b : Fin 512, ∀ l : Fin 9, natB (inS b) 9 = b := by decide +kernel
  have bd : ∀ n, n ≤ 9 → natB p n < 2 ^ n := by
    intro n hn
    induction n with
    | zero => exact (by decide : 0 < 2 ^ 0)
    | succ n ih =>
      have := ih (by omega)
      rw [Nat.pow_succ]
      show natB p n + (if p n then 2 ^ n else 0) < _
      split <;> omega
  have ex : ∀ a : Bool, ∀ b : Bool, ∀ c : Bool, ∀ d : Bool, ∀ e : Bool, ∀ f : Bool, ∀ g : Bool, ∀ h : Bool, ∀ i : Bool, ∀ l : Fin 9, inS (0 + (if a then 2 ^ 0 else 0) + (if b then 2 ^ 1 else 0) + (if c then 2 ^ 2 else 0) + (if d then 2 ^ 3 else 0) + (if e then 2 ^ 4 else 0) + (if f then 2 ^ 5 else 0) + (if g then 2 ^ 6 else 0) + (if h then 2 ^ 7 else 0) + (if i then 2 ^ 8 else 0)) l = [a, b, c, d, e, f, g, h, i].getD l false := by decide +kernel
  refine ⟨bd 9 (by decide), fun l hl => ?_⟩
  have h1 := ex (p 0) (p 1) (p 2) (p 3) (p 4) (p 5) (p 6) (p 7) (p 8) ⟨l, hl⟩
  have h2 : l = 0 ∨ l = 1 ∨ l = 2 ∨ l = 3 ∨ l = 4 ∨ l = 5 ∨ l = 6 ∨ l = 7 ∨ l = 8 := by omega
  rcases h2 with rfl | rfl | rfl | rfl | rfl | rfl | rfl | rfl | rfl <;> exact h1
