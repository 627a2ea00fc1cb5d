/-! WHAT STAYS -/
theorem gi_s (σ : vMem) (a k : Nat) (v : Int32) (b j : Nat) : gi (si σ a k v) b j = if b = a ∧ j = k then v else gi σ b j := (rfl)
theorem gl_s (σ : vMem) (a k : Nat) (v : Int64) (b j : Nat) : gl (sl σ a k v) b j = if b = a ∧ j = k then v else gl σ b j := (rfl)
theorem gr_s (σ : vMem) (a k : Nat) (v : Option Nat) (b j : Nat) : gr (sr σ a k v) b j = if b = a ∧ j = k then v else gr σ b j := (rfl)
theorem gl_si (σ : vMem) (a k : Nat) (v : Int32) : gl (si σ a k v) = gl σ := (rfl)
theorem gr_si (σ : vMem) (a k : Nat) (v : Int32) : gr (si σ a k v) = gr σ := (rfl)
theorem gi_sl (σ : vMem) (a k : Nat) (v : Int64) : gi (sl σ a k v) = gi σ := (rfl)
theorem gr_sl (σ : vMem) (a k : Nat) (v : Int64) : gr (sl σ a k v) = gr σ := (rfl)
theorem gi_sr (σ : vMem) (a k : Nat) (v : Option Nat) : gi (sr σ a k v) = gi σ := (rfl)
theorem gl_sr (σ : vMem) (a k : Nat) (v : Option Nat) : gl (sr σ a k v) = gl σ := (rfl)
theorem kn_si (σ : vMem) (a k : Nat) (v : Int32) : knd (si σ a k v) = knd σ := (rfl)
theorem kn_sl (σ : vMem) (a k : Nat) (v : Int64) : knd (sl σ a k v) = knd σ := (rfl)
theorem kn_sr (σ : vMem) (a k : Nat) (v : Option Nat) : knd (sr σ a k v) = knd σ := (rfl)
theorem ln_si (σ : vMem) (a k : Nat) (v : Int32) : len (si σ a k v) = len σ := (rfl)
theorem ln_sl (σ : vMem) (a k : Nat) (v : Int64) : len (sl σ a k v) = len σ := (rfl)
theorem ln_sr (σ : vMem) (a k : Nat) (v : Option Nat) : len (sr σ a k v) = len σ := (rfl)
theorem mn_si (σ : vMem) (a k : Nat) (v : Int32) : mn (si σ a k v) = mn σ := (rfl)
theorem mn_sl (σ : vMem) (a k : Nat) (v : Int64) : mn (sl σ a k v) = mn σ := (rfl)
theorem mn_sr (σ : vMem) (a k : Nat) (v : Option Nat) : mn (sr σ a k v) = mn σ := (rfl)
theorem cko_si {α : Type} (σ : vMem) (b j : Nat) (v : Int32) (a : Nat) (S : List Nat) (t : Option α) : cko (si σ b j v) a S t = cko σ a S t := (rfl)
theorem cko_sl {α : Type} (σ : vMem) (b j : Nat) (v : Int64) (a : Nat) (S : List Nat) (t : Option α) : cko (sl σ b j v) a S t = cko σ a S t := (rfl)
theorem cko_sr {α : Type} (σ : vMem) (b j : Nat) (v : Option Nat) (a : Nat) (S : List Nat) (t : Option α) : cko (sr σ b j v) a S t = cko σ a S t := (rfl)
theorem cka_si {α : Type} (σ : vMem) (b j : Nat) (v : Int32) (a k : Nat) (i : Int32) (t : Option α) : cka (si σ b j v) a k i t = cka σ a k i t := (rfl)
theorem cka_sl {α : Type} (σ : vMem) (b j : Nat) (v : Int64) (a k : Nat) (i : Int32) (t : Option α) : cka (sl σ b j v) a k i t = cka σ a k i t := (rfl)
theorem cka_sr {α : Type} (σ : vMem) (b j : Nat) (v : Option Nat) (a k : Nat) (i : Int32) (t : Option α) : cka (sr σ b j v) a k i t = cka σ a k i t := (rfl)
theorem vl_s {α β : Type} (x : α) (f : α → β) : vl x f = f x := (rfl)
theorem bp_s {α β : Type} (x : α) (f : α → Option β) : bp (some x) f = f x := (rfl)
theorem bd_s {α β : Type} (x : α) (σ : vMem) (f : α → vMem → Option β) : bd (some (x, σ)) f = f x σ := (rfl)
theorem bv_s {β : Type} (σ : vMem) (f : vMem → Option β) : bv (some σ) f = f σ := (rfl)
/-- σ' is σ at the places that K names; at most c cells of z places are new -/
def Fr (K : Nat → Nat → Prop) (c z : Nat) (σ σ' : vMem) : Prop := (mn σ ≤ mn σ' ∧ mn σ' ≤ mn σ + c ∧ mz σ' ≤ mz σ + z) ∧ (∀ a, a < mn σ → σ'.2.2.2.1 a = σ.2.2.2.1 a) ∧ ∀ a k, a < mn σ → K a k → gi σ' a k = gi σ a k ∧ gl σ' a k = gl σ a k ∧ gr σ' a k = gr σ a k
section FRS
variable {K K' : Nat → Nat → Prop} {c z c' z' : Nat} {σ σ' σ1 σ2 : vMem}
theorem Fr.rf : Fr K 0 0 σ σ := ⟨⟨Nat.le_refl _, Nat.le_refl _, Nat.le_refl _⟩, fun _ _ => rfl, fun _ _ _ _ => ⟨rfl, rfl, rfl⟩⟩
theorem Fr.n (h : Fr K c z σ σ') : mn σ ≤ mn σ' := h.1.1
theorem Fr.n2 (h : Fr K c z σ σ') : mn σ' ≤ mn σ + c := h.1.2.1
theorem Fr.n3 (h : Fr K c z σ σ') : mz σ' ≤ mz σ + z := h.1.2.2
theorem Fr.sh (h : Fr K c z σ σ') {a : Nat} (ha : a < mn σ) : σ'.2.2.2.1 a = σ.2.2.2.1 a := h.2.1 a ha
theorem Fr.kn (h : Fr K c z σ σ') {a : Nat} (ha : a < mn σ) : knd σ' a = knd σ a := by unfold knd; rw [h.sh ha]
theorem Fr.ln (h : Fr K c z σ σ') {a : Nat} (ha : a < mn σ) : len σ' a = len σ a := by unfold len; rw [h.sh ha]
theorem Fr.i (h : Fr K c z σ σ') {a k : Nat} (ha : a < mn σ) (hk : K a k) : gi σ' a k = gi σ a k := (h.2.2 a k ha hk).1
theorem Fr.l (h : Fr K c z σ σ') {a k : Nat} (ha : a < mn σ) (hk : K a k) : gl σ' a k = gl σ a k := (h.2.2 a k ha hk).2.1
theorem Fr.r (h : Fr K c z σ σ') {a k : Nat} (ha : a < mn σ) (hk : K a k) : gr σ' a k = gr σ a k := (h.2.2 a k ha hk).2.2
theorem Fr.tr (h : Fr K c z σ σ1) (h' : Fr K c' z' σ1 σ2) : Fr K (c + c') (z + z') σ σ2 := by
  refine ⟨⟨Nat.le_trans h.n h'.n, ?_, ?_⟩, fun a ha => ?_, fun a k ha hk => ?_⟩
  · have := h.n2; have := h'.n2; omega
  · have := h.n3; have := h'.n3; omega
  · rw [h'.sh (Nat.lt_of_lt_of_le ha h.n), h.sh ha]
  · have ha' := Nat.lt_of_lt_of_le ha h.n
    exact ⟨(h'.i ha' hk).trans (h.i ha hk), (h'.l ha' hk).trans (h.l ha hk), (h'.r ha' hk).trans (h.r ha hk)⟩
theorem Fr.tr0 (h : Fr K c z σ σ1) (h' : Fr K 0 0 σ1 σ2) : Fr K c z σ σ2 := h.tr h'
theorem Fr.tr1 (h : Fr K 0 0 σ σ1) (h' : Fr K c z σ1 σ2) : Fr K c z σ σ2 := by
  have := h.tr h'
  rwa [Nat.zero_add, Nat.zero_add] at this
theorem Fr.mono (h : Fr K c z σ σ') (hK : ∀ a k, K' a k → K a k) : Fr K' c z σ σ' := ⟨h.1, h.2.1, fun a k ha hk => h.2.2 a k ha (hK a k hk)⟩
theorem Fr.up (h : Fr K c z σ σ') (h1 : c ≤ c') (h2 : z ≤ z') : Fr K c' z' σ σ' := ⟨⟨h.n, by have := h.n2; omega, by have := h.n3; omega⟩, h.2⟩
theorem Fr.wi {a k : Nat} {v : Int32} (h : Fr K c z σ σ1) (hk : ¬ K a k) : Fr K c z σ (si σ1 a k v) := by
  refine ⟨h.1, h.2.1, fun b j hb hj => ⟨?_, h.l hb hj, h.r hb hj⟩⟩
  rw [gi_s, if_neg (fun e => hk (by rw [← e.1, ← e.2]; exact hj))]
  exact h.i hb hj
theorem Fr.wl {a k : Nat} {v : Int64} (h : Fr K c z σ σ1) (hk : ¬ K a k) : Fr K c z σ (sl σ1 a k v) := by
  refine ⟨h.1, h.2.1, fun b j hb hj => ⟨h.i hb hj, ?_, h.r hb hj⟩⟩
  rw [gl_s, if_neg (fun e => hk (by rw [← e.1, ← e.2]; exact hj))]
  exact h.l hb hj
theorem Fr.wr {a k : Nat} {v : Option Nat} (h : Fr K c z σ σ1) (hk : ¬ K a k) : Fr K c z σ (sr σ1 a k v) := by
  refine ⟨h.1, h.2.1, fun b j hb hj => ⟨h.i hb hj, h.l hb hj, ?_⟩⟩
  rw [gr_s, if_neg (fun e => hk (by rw [← e.1, ← e.2]; exact hj))]
  exact h.r hb hj
theorem Fr.al {k n : Nat} (h : Fr K c z σ σ1) : Fr K (c + 1) (z + n) σ (alc σ1 k n) := by
  have hne : ∀ a, a < mn σ → a ≠ mn σ1 := fun a ha => by have := h.n; omega
  refine ⟨⟨?_, ?_, ?_⟩, fun a ha => ?_, fun b j hb hj => ⟨?_, ?_, ?_⟩⟩
  · show mn σ ≤ mn σ1 + 1; have := h.n; omega
  · show mn σ1 + 1 ≤ _; have := h.n2; omega
  · show mz σ1 + n ≤ _; have := h.n3; omega
  · show (if a = mn σ1 then _ else _) = _; rw [if_neg (hne a ha)]; exact h.sh ha
  · show (if b = mn σ1 then _ else _) = _; rw [if_neg (hne b hb)]; exact h.i hb hj
  · show (if b = mn σ1 then _ else _) = _; rw [if_neg (hne b hb)]; exact h.l hb hj
  · show (if b = mn σ1 then _ else _) = _; rw [if_neg (hne b hb)]; exact h.r hb hj
/-- a new cell isn't an old one -/
theorem Fr.ni {a k : Nat} {v : Int32} (h : Fr K c z σ σ1) (ha : mn σ ≤ a) : Fr K c z σ (si σ1 a k v) := by
  refine ⟨h.1, h.2.1, fun b j hb hj => ⟨?_, h.l hb hj, h.r hb hj⟩⟩
  rw [gi_s, if_neg (fun e => by omega)]
  exact h.i hb hj
theorem Fr.nl {a k : Nat} {v : Int64} (h : Fr K c z σ σ1) (ha : mn σ ≤ a) : Fr K c z σ (sl σ1 a k v) := by
  refine ⟨h.1, h.2.1, fun b j hb hj => ⟨h.i hb hj, ?_, h.r hb hj⟩⟩
  rw [gl_s, if_neg (fun e => by omega)]
  exact h.l hb hj
theorem Fr.nr {a k : Nat} {v : Option Nat} (h : Fr K c z σ σ1) (ha : mn σ ≤ a) : Fr K c z σ (sr σ1 a k v) := by
  refine ⟨h.1, h.2.1, fun b j hb hj => ⟨h.i hb hj, h.l hb hj, ?_⟩⟩
  rw [gr_s, if_neg (fun e => by omega)]
  exact h.r hb hj
theorem Fr.ci {a sp b dp n : Nat} (h : Fr K c z σ σ1) (hk : ∀ j, dp ≤ j → j < dp + n → ¬ K b j) : Fr K c z σ (cpi σ1 a sp b dp n) := by
  refine ⟨h.1, h.2.1, fun x j hb hj => ⟨?_, h.l hb hj, h.r hb hj⟩⟩
  show (if x = b ∧ dp ≤ j ∧ j < dp + n then _ else _) = _
  rw [if_neg (fun e => hk j e.2.1 e.2.2 (by rw [← e.1]; exact hj))]
  exact h.i hb hj
theorem Fr.cr {a sp b dp n : Nat} (h : Fr K c z σ σ1) (hk : ∀ j, dp ≤ j → j < dp + n → ¬ K b j) : Fr K c z σ (cpr σ1 a sp b dp n) := by
  refine ⟨h.1, h.2.1, fun x j hb hj => ⟨h.i hb hj, h.l hb hj, ?_⟩⟩
  show (if x = b ∧ dp ≤ j ∧ j < dp + n then _ else _) = _
  rw [if_neg (fun e => hk j e.2.1 e.2.2 (by rw [← e.1]; exact hj))]
  exact h.r hb hj
end FRS
/-- a loop: from any round, as long as what goes round holds P -/
theorem loopk {α β : Type} {F : Nat → α → Option β} {Q : β → Prop} (R : Nat) (P : Nat → α → Prop) (H : ∀ n i a, i ≤ R → P i a → (i < R → ∀ a', P (i + 1) a' → ok (F n a') Q) → ok (F (n + 1) a) Q) : ∀ (fuel i : Nat) (a : α), i ≤ R → P i a → R - i < fuel → ok (F fuel a) Q
  | 0, _, _, _, _, h => by omega
  | n + 1, i, a, hi, hp, hf => H n i a hi hp (fun hlt a' hp' => loopk R P H n (i + 1) a' (by omega) hp' (by omega))
theorem loop1 {A Z : Type} {F : Nat → A → Option Z} {Q : Z → Prop} (R : Nat) (P : Nat → A → Prop) (H : ∀ n i a, i ≤ R → P i a → (i < R → ∀ a', P (i + 1) a' → ok (F n a') Q) → ok (F (n + 1) a) Q) : ∀ (fuel i : Nat) (a : A), i ≤ R → P i a → R - i < fuel → ok (F fuel a) Q
  | 0, _, _, _, _, h => by omega
  | n + 1, i, a, hi, hp, hf => H n i a hi hp (fun hlt a' hp' => loop1 R P H n (i + 1) a' (by omega) hp' (by omega))
theorem loop2 {A B Z : Type} {F : Nat → A → B → Option Z} {Q : Z → Prop} (R : Nat) (P : Nat → A → B → Prop) (H : ∀ n i a b, i ≤ R → P i a b → (i < R → ∀ a' b', P (i + 1) a' b' → ok (F n a' b') Q) → ok (F (n + 1) a b) Q) : ∀ (fuel i : Nat) (a : A) (b : B), i ≤ R → P i a b → R - i < fuel → ok (F fuel a b) Q
  | 0, _, _, _, _, _, h => by omega
  | n + 1, i, a, b, hi, hp, hf => H n i a b hi hp (fun hlt a' b' hp' => loop2 R P H n (i + 1) a' b' (by omega) hp' (by omega))
theorem loop3 {A B C Z : Type} {F : Nat → A → B → C → Option Z} {Q : Z → Prop} (R : Nat) (P : Nat → A → B → C → Prop) (H : ∀ n i a b c, i ≤ R → P i a b c → (i < R → ∀ a' b' c', P (i + 1) a' b' c' → ok (F n a' b' c') Q) → ok (F (n + 1) a b c) Q) : ∀ (fuel i : Nat) (a : A) (b : B) (c : C), i ≤ R → P i a b c → R - i < fuel → ok (F fuel a b c) Q
  | 0, _, _, _, _, _, _, h => by omega
  | n + 1, i, a, b, c, hi, hp, hf => H n i a b c hi hp (fun hlt a' b' c' hp' => loop3 R P H n (i + 1) a' b' c' (by omega) hp' (by omega))
theorem loop4 {A B C D Z : Type} {F : Nat → A → B → C → D → Option Z} {Q : Z → Prop} (R : Nat) (P : Nat → A → B → C → D → Prop) (H : ∀ n i a b c d, i ≤ R → P i a b c d → (i < R → ∀ a' b' c' d', P (i + 1) a' b' c' d' → ok (F n a' b' c' d') Q) → ok (F (n + 1) a b c d) Q) : ∀ (fuel i : Nat) (a : A) (b : B) (c : C) (d : D), i ≤ R → P i a b c d → R - i < fuel → ok (F fuel a b c d) Q
  | 0, _, _, _, _, _, _, _, h => by omega
  | n + 1, i, a, b, c, d, hi, hp, hf => H n i a b c d hi hp (fun hlt a' b' c' d' hp' => loop4 R P H n (i + 1) a' b' c' d' (by omega) hp' (by omega))
theorem loop5 {A B C D E Z : Type} {F : Nat → A → B → C → D → E → Option Z} {Q : Z → Prop} (R : Nat) (P : Nat → A → B → C → D → E → Prop) (H : ∀ n i a b c d e, i ≤ R → P i a b c d e → (i < R → ∀ a' b' c' d' e', P (i + 1) a' b' c' d' e' → ok (F n a' b' c' d' e') Q) → ok (F (n + 1) a b c d e) Q) : ∀ (fuel i : Nat) (a : A) (b : B) (c : C) (d : D) (e : E), i ≤ R → P i a b c d e → R - i < fuel → ok (F fuel a b c d e) Q
  | 0, _, _, _, _, _, _, _, _, h => by omega
  | n + 1, i, a, b, c, d, e, hi, hp, hf => H n i a b c d e hi hp (fun hlt a' b' c' d' e' hp' => loop5 R P H n (i + 1) a' b' c' d' e' (by omega) hp' (by omega))
