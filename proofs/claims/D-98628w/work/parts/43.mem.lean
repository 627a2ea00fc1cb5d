/-! MEMORY: normal forms of what int writes do -/
def wI (σ : vMem) (I : Nat → Nat → Int32) : vMem := (I, σ.2)
def wJ (σ : vMem) (J : Nat → Nat → Int64) : vMem := (σ.1, J, σ.2.2)
/-- an array's (a cell's) ints, all at once -/
def setA {α : Type} (I : Nat → α) (a : Nat) (g : α) : Nat → α := fun b => if b = a then g else I b
def up1 {α : Type} (f : Nat → α) (k : Nat) (v : α) : Nat → α := fun j => if j = k then v else f j
theorem up2_setA {α : Type} (I : Nat → Nat → α) (a k : Nat) (v : α) : up2 I a k v = setA I a (up1 (I a) k v) := by
  funext b j
  unfold up2 setA up1
  by_cases h : b = a
  · subst h
    simp
  · simp [h]
theorem si_wI (σ : vMem) (a k : Nat) (v : Int32) : si σ a k v = wI σ (setA σ.1 a (up1 (σ.1 a) k v)) := by
  unfold si wI
  rw [up2_setA]
theorem sl_wJ (σ : vMem) (a k : Nat) (v : Int64) : sl σ a k v = wJ σ (setA σ.2.1 a (up1 (σ.2.1 a) k v)) := by
  unfold sl wJ
  rw [up2_setA]
theorem wI_wI (σ : vMem) (I I' : Nat → Nat → Int32) : wI (wI σ I) I' = wI σ I' := rfl
theorem wI_self (σ : vMem) : wI σ σ.1 = σ := rfl
theorem gi_wI (σ : vMem) (I : Nat → Nat → Int32) (a k : Nat) : gi (wI σ I) a k = I a k := rfl
theorem gi_def (σ : vMem) (a k : Nat) : gi σ a k = σ.1 a k := rfl
theorem wI_1 (σ : vMem) (I : Nat → Nat → Int32) : (wI σ I).1 = I := rfl
theorem gl_wI (σ : vMem) (I : Nat → Nat → Int32) (a k : Nat) : gl (wI σ I) a k = gl σ a k := rfl
theorem gr_wI (σ : vMem) (I : Nat → Nat → Int32) (a k : Nat) : gr (wI σ I) a k = gr σ a k := rfl
theorem cko_wI {α : Type} (σ : vMem) (I : Nat → Nat → Int32) (a : Nat) (S : List Nat) (t : Option α) : cko (wI σ I) a S t = cko σ a S t := rfl
theorem cka_wI {α : Type} (σ : vMem) (I : Nat → Nat → Int32) (a k : Nat) (i : Int32) (t : Option α) : cka (wI σ I) a k i t = cka σ a k i t := rfl
theorem gi_wJ (σ : vMem) (J : Nat → Nat → Int64) (a k : Nat) : gi (wJ σ J) a k = gi σ a k := rfl
theorem gl_wJ (σ : vMem) (J : Nat → Nat → Int64) (a k : Nat) : gl (wJ σ J) a k = J a k := rfl
theorem gr_wJ (σ : vMem) (J : Nat → Nat → Int64) (a k : Nat) : gr (wJ σ J) a k = gr σ a k := rfl
theorem wJ_1 (σ : vMem) (J : Nat → Nat → Int64) : (wJ σ J).1 = σ.1 := rfl
theorem wI_J (σ : vMem) (I : Nat → Nat → Int32) : (wI σ I).2.1 = σ.2.1 := rfl
theorem cko_wJ {α : Type} (σ : vMem) (J : Nat → Nat → Int64) (a : Nat) (S : List Nat) (t : Option α) : cko (wJ σ J) a S t = cko σ a S t := rfl
theorem cka_wJ {α : Type} (σ : vMem) (J : Nat → Nat → Int64) (a k : Nat) (i : Int32) (t : Option α) : cka (wJ σ J) a k i t = cka σ a k i t := rfl
theorem setA_same {α : Type} (I : Nat → α) (a : Nat) (g : α) : setA I a g a = g := if_pos rfl
theorem setA_ne {α : Type} (I : Nat → α) {a b : Nat} (g : α) (h : b ≠ a) : setA I a g b = I b := if_neg h
theorem setA_setA {α : Type} (I : Nat → α) (a : Nat) (g g' : α) : setA (setA I a g) a g' = setA I a g' := by
  funext b
  unfold setA
  by_cases h : b = a <;> simp [h]
theorem setA_comm {α : Type} (I : Nat → α) {a b : Nat} (g g' : α) (h : a ≠ b) : setA (setA I a g) b g' = setA (setA I b g') a g := by
  funext c
  unfold setA
  by_cases h1 : c = a
  · subst h1; simp [h]
  · by_cases h2 : c = b
    · subst h2; simp [Ne.symm h]
    · simp [h1, h2]
theorem up1_up1 {α : Type} (f : Nat → α) (k : Nat) (v w : α) : up1 (up1 f k v) k w = up1 f k w := by
  funext j
  unfold up1
  by_cases h : j = k <;> simp [h]
theorem up1_same {α : Type} (f : Nat → α) (k : Nat) (v : α) : up1 f k v k = v := if_pos rfl
theorem up1_ne {α : Type} (f : Nat → α) {k j : Nat} (v : α) (h : j ≠ k) : up1 f k v j = f j := if_neg h
theorem setA_id {α : Type} (I : Nat → α) (a : Nat) : setA I a (I a) = I := by
  funext b
  unfold setA
  by_cases h : b = a
  · subst h; simp
  · simp [h]
theorem loop_inv {α β : Type} {F : Nat → α → Int32 → Option β} {R : Nat} {P : Nat → α → Prop} {Q : β → Prop} (hend : ∀ n a, P R a → ok (F (n + 1) a (Int32.ofNat R)) Q) (hstep : ∀ n a i, i < R → P i a → ∃ a', F (n + 1) a (Int32.ofNat i) = F n a' (Int32.ofNat (i + 1)) ∧ P (i + 1) a') : ∀ (n i : Nat) (a : α) (fuel : Nat), i + n = R → n < fuel → P i a → ok (F fuel a (Int32.ofNat i)) Q
  | 0, i, a, fuel, h, hf, hp => by
    obtain ⟨f, rfl⟩ : ∃ f, fuel = f + 1 := ⟨fuel - 1, by omega⟩
    have : i = R := by omega
    subst this
    exact hend f a hp
  | n + 1, i, a, fuel, h, hf, hp => by
    obtain ⟨f, rfl⟩ : ∃ f, fuel = f + 1 := ⟨fuel - 1, by omega⟩
    obtain ⟨a', h1, h2⟩ := hstep f a i (by omega) hp
    rw [h1]
    exact loop_inv hend hstep n (i + 1) a' f (by omega) (by omega) h2
theorem n_add {i j : Nat} : Int32.ofNat i + Int32.ofNat j = Int32.ofNat (i + j) := (Int32.ofNat_add i j).symm
theorem n_mul {i j : Nat} : Int32.ofNat i * Int32.ofNat j = Int32.ofNat (i * j) := (Int32.ofNat_mul i j).symm
/-- part of an array, copied -/
def cpf (f : Nat → Int32) (b n : Nat) (h : Nat → Int32) : Nat → Int32 := fun j => if b ≤ j ∧ j < b + n then h (j - b) else f j
theorem cpf_0 (f h : Nat → Int32) (b : Nat) : cpf f b 0 h = f := by
  funext j
  unfold cpf
  rw [if_neg (by omega)]
theorem cpf_up (f h : Nat → Int32) (b n : Nat) : up1 (cpf f b n h) (b + n) (h n) = cpf f b (n + 1) h := by
  funext j
  unfold cpf up1
  by_cases e : j = b + n
  · subst e
    rw [if_pos rfl, if_pos (by omega)]
    congr 1
    omega
  · rw [if_neg e]
    show (if b ≤ j ∧ j < b + n then h (j - b) else f j) = _
    by_cases e2 : b ≤ j ∧ j < b + n
    · rw [if_pos e2, if_pos (by omega)]
    · rw [if_neg e2, if_neg (by omega)]
theorem X3_putsBy {σ : vMem} (h : ML σ) {U : Nat} (hU : gi σ 161 29 = Int32.ofNat U) (hU2 : U ≤ 15) : f_X3_putsBy σ 161 = some (wI σ (setA σ.1 176 (cpf (σ.1 176) (57 * U) 57 (σ.1 168)))) := by
  unfold f_X3_putsBy
  have hk : ok (f_X3_putsBy_2 161 FU σ 0) (fun r => r = wI σ (setA σ.1 176 (cpf (σ.1 176) (57 * U) 57 (σ.1 168)))) := by
   refine loop_inv (F := f_X3_putsBy_2 161) (R := 57) (P := fun i σ' => σ' = wI σ (setA σ.1 176 (cpf (σ.1 176) (57 * U) i (σ.1 168)))) (Q := fun r => r = wI σ (setA σ.1 176 (cpf (σ.1 176) (57 * U) 57 (σ.1 168)))) (fun n a ha => ⟨a, rfl, ha⟩) (fun n a i hi ha => ?_) 57 0 σ FU (by omega) (by unfold FU; omega) (by rw [cpf_0, setA_id]; rfl)
   subst ha
   rw [f_X3_putsBy_2.eq_2]
   have h2 : ¬ (57 : Int32) ≤ Int32.ofNat i := by
     rw [show (57 : Int32) = Int32.ofNat 57 from rfl, n_le (by omega) (by omega)]; omega
   have e1 : (wI σ (setA σ.1 176 (cpf (σ.1 176) (57 * U) i (σ.1 168)))).1 161 29 = Int32.ofNat U := by
     rw [wI_1, setA_ne _ _ (by decide)]; exact hU
   refine ⟨_, ?_, rfl⟩
   rw [if_neg h2]
   simp only [cko_wI, cka_wI, gr_wI, cko_c h.k (show 3 ∈ [3] by decide), dr_c h.r30, dr_c h.r14, cka_n h.k168 h.l168 (show i < 57 by omega) (by omega), gi_def, e1]
   rw [show (57 : Int32) = Int32.ofNat 57 from rfl, n_mul, n_add, cka_n h.k176 h.l176 (by omega) (by omega), n_cl (by omega), n_cl (by omega), si_wI, wI_1, wI_wI, setA_same, setA_setA, setA_ne _ _ (show (168 : Nat) ≠ 176 by decide), cpf_up, n_succ]
   rfl
  obtain ⟨r, h1, h2⟩ := hk
  rw [h2] at h1
  exact h1
/-- a loop that may end ahead; what it goes round on is anything -/
theorem loop_ex {α β : Type} {F : Nat → α → Option β} {R : Nat} {P : Nat → α → Prop} {Q : β → Prop} (hend : ∀ n a, P R a → ok (F (n + 1) a) Q) (hstep : ∀ n a i, i < R → P i a → ok (F (n + 1) a) Q ∨ ∃ a', F (n + 1) a = F n a' ∧ P (i + 1) a') : ∀ (n i : Nat) (a : α) (fuel : Nat), i + n = R → n < fuel → P i a → ok (F fuel a) Q
  | 0, i, a, fuel, h, hf, hp => by
    obtain ⟨f, rfl⟩ : ∃ f, fuel = f + 1 := ⟨fuel - 1, by omega⟩
    have : i = R := by omega
    subst this
    exact hend f a hp
  | n + 1, i, a, fuel, h, hf, hp => by
    obtain ⟨f, rfl⟩ : ∃ f, fuel = f + 1 := ⟨fuel - 1, by omega⟩
    rcases hstep f a i (by omega) hp with h1 | ⟨a', h1, h2⟩
    · exact h1
    · rw [h1]
      exact loop_ex hend hstep n (i + 1) a' f (by omega) (by omega) h2
theorem ok_eq {α : Type} {t : Option α} {x : α} (h : ok t (fun r => r = x)) : t = some x := by
  obtain ⟨r, h1, h2⟩ := h
  rw [h1, h2]
