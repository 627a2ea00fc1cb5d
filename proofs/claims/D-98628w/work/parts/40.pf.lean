/-! THE PLAIN HALF: what the terms compute. No machine from here on. -/
set_option maxRecDepth 100000
/-- the memory at the law's start -/
def σ0 : vMem := (fun _ _ => 0, fun _ _ => 0, fun _ _ => none, fun _ => (0, 0), 0, 0)
/-- t ends with an answer as Q has it -/
def ok {α : Type} (t : Option α) (Q : α → Prop) : Prop := ∃ r, t = some r ∧ Q r
theorem ok_some {α : Type} {r : α} {Q : α → Prop} (h : Q r) : ok (some r) Q := ⟨r, rfl, h⟩
theorem ok_mono {α : Type} {t : Option α} {P Q : α → Prop} (h : ok t P) (k : ∀ r, P r → Q r) : ok t Q := by
  obtain ⟨r, h1, h2⟩ := h
  exact ⟨r, h1, k r h2⟩
theorem ok_ck {α : Type} {c : Prop} [Decidable c] {t : Option α} {Q : α → Prop} (h : c) (k : ok t Q) : ok (ck c t) Q := by
  unfold ck; rw [if_pos h]; exact k
theorem ok_cko {α : Type} {σ : vMem} {a : Nat} {S : List Nat} {t : Option α} {Q : α → Prop} (h : knd σ a ∈ S) (k : ok t Q) : ok (cko σ a S t) Q := by
  unfold cko; rw [if_pos h]; exact k
theorem ok_cka {α : Type} {σ : vMem} {a k : Nat} {i : Int32} {t : Option α} {Q : α → Prop} (h : knd σ a = k) (h1 : ¬ (i < 0 ∨ len σ a ≤ i.toNatClampNeg)) (kk : ok t Q) : ok (cka σ a k i t) Q := by
  unfold cka; rw [if_pos ⟨h, h1⟩]; exact kk
theorem ok_dr {α : Type} {o : Option Nat} {f : Nat → Option α} {Q : α → Prop} {a : Nat} (h : o = some a) (k : ok (f a) Q) : ok (dr o f) Q := by
  subst h; exact k
theorem ok_vl {α β : Type} {x : α} {f : α → Option β} {Q : β → Prop} (k : ok (f x) Q) : ok (vl x f) Q := k
theorem ok_bp {α β : Type} {o : Option α} {f : α → Option β} {P : α → Prop} {Q : β → Prop} (h : ok o P) (k : ∀ r, P r → ok (f r) Q) : ok (bp o f) Q := by
  obtain ⟨r, rfl, h2⟩ := h; exact k r h2
theorem ok_bd {α β : Type} {o : Option (α × vMem)} {f : α → vMem → Option β} {P : α × vMem → Prop} {Q : β → Prop} (h : ok o P) (k : ∀ x σ, P (x, σ) → ok (f x σ) Q) : ok (bd o f) Q := by
  obtain ⟨⟨x, σ⟩, rfl, h2⟩ := h; exact k x σ h2
theorem ok_bv {β : Type} {o : Option vMem} {f : vMem → Option β} {P : vMem → Prop} {Q : β → Prop} (h : ok o P) (k : ∀ σ, P σ → ok (f σ) Q) : ok (bv o f) Q := by
  obtain ⟨σ, rfl, h2⟩ := h; exact k σ h2
theorem ok_ite {α : Type} {c : Prop} [Decidable c] {t e : Option α} {Q : α → Prop} (h1 : c → ok t Q) (h2 : ¬ c → ok e Q) : ok (if c then t else e) Q := by
  by_cases h : c
  · rw [if_pos h]; exact h1 h
  · rw [if_neg h]; exact h2 h
/-- the memory behind both constructors: known -/
def isS {α : Type} (o : Option α) : Bool := match o with
  | some _ => true
  | none => false
def getS (o : Option vMem) : vMem := match o with
  | some σ => σ
  | none => σ0
def σ1 : vMem := getS (nw σ0 1 28 (fun b σ => bv (f_X1_init σ b) (fun σ => some σ)))
def σ2 : vMem := getS (nw σ1 3 53 (fun b σ => bv (f_X3_init σ b) (fun σ => some σ)))
theorem σ1_some : nw σ0 1 28 (fun b σ => bv (f_X1_init σ b) (fun σ => some σ)) = some σ1 := by
  have h : isS (nw σ0 1 28 (fun b σ => bv (f_X1_init σ b) (fun σ => some σ))) = true := by decide +kernel
  unfold σ1
  cases hc : nw σ0 1 28 (fun b σ => bv (f_X1_init σ b) (fun σ => some σ)) with
  | none => rw [hc] at h; cases h
  | some σ => rfl
theorem σ1_mn : mn σ1 = 161 := by decide +kernel
