/-! ROWS OF THE LAW: its script lies outside the world; its ends -/
set_option maxRecDepth 100000
/-- a place of the script -/
def cks2 {α : Type} (L : Nat) (i : Int32) (t : Option α) : Option α := if ¬ (i < 0 ∨ L ≤ i.toNatClampNeg) then t else none
def vLQ (below : List Frame) (a : Array Value) (s : State) : vRes → State → Prop := fun r => match r with
  | .inl (some (.int v), _) => if v = 1 then lw_Z below a s else fun _ => True
  | _ => fun _ => True
def vLP (l : Launch) (L : Nat) (xs : Nat → Int32) : vX → Prop := fun X =>
  vCx X cL_law 8 "NobodyBeenAftLaw" (some .boolean) 1600 ∧ X.l = l ∧ X.n0 = 0 ∧ X.s0 = 0 ∧ X.R = room_1 ∧ va_X (X.E.2 20) L xs X.s X.s.heap ∧ X.E.2 20 < X.s.heap.size ∧ X.E.1 = X.s.heap.size ∧ X.args = #[Value.ref (X.E.2 20)] ∧ X.Q = vLQ X.below X.args X.s
theorem vLP_cx {l : Launch} {L : Nat} {xs : Nat → Int32} : vPx (vLP l L xs) cL_law 8 "NobodyBeenAftLaw" (some .boolean) 1600 := fun _ h => h.1
theorem vLP_l {l : Launch} {L : Nat} {xs : Nat → Int32} : ∀ X, vLP l L xs X → X.l = l := fun _ h => h.2.1
section VLAW
variable {α : Type} {emb : α → vRes} {l : Launch} {L : Nat} {xs : Nat → Int32} {σ : vMem} {pc : Nat} {ls : List (Option Value)} {st : List Value} {t : Option α}
theorem V_slen (hdg : decode cL_law pc = .ok (.arraylength, 1)) (kk : V (vLP l L xs) emb σ (pc + 1) ls (.int (Int32.ofNat L) :: st) t) : V (vLP l L xs) emb σ pc ls (.ref (SB + 20) :: st) t := by
  intro r hr
  obtain ⟨h1, h2, h3⟩ := kk r hr
  refine ⟨h1, h2, fun X hX g1 g2 g3 g4 H locs Lo hR hS hL => ?_⟩
  have k9 := h3 X hX g1 g2 g3 g4 H locs Lo hR hS hL
  have e8 : rv X.E (.ref (SB + 20)) = .ref (X.E.2 20) := by show Value.ref (adr X.E (SB + 20)) = _; rw [adr_s]
  rw [List.map_cons, e8]
  exact va_slen hX.1.exec hX.1.code hX.2.2.2.2.2.1 hX.2.2.2.2.2.2.1 (show ¬ (X.E.1 ≤ X.E.2 20) by have := hX.2.2.2.2.2.2.1; have := hX.2.2.2.2.2.2.2.1; omega) hS hdg k9
theorem V_scrald {i : Int32} (hdg : decode cL_law pc = .ok (.iaload, 1)) (kk : V (vLP l L xs) emb σ (pc + 1) ls (.int (xs i.toNatClampNeg) :: st) t) : V (vLP l L xs) emb σ pc ls (.int i :: .ref (SB + 20) :: st) (cks2 L i t) := by
  intro r hr
  unfold cks2 at hr
  by_cases hi : ¬ (i < 0 ∨ L ≤ i.toNatClampNeg)
  · rw [if_pos hi] at hr
    obtain ⟨h1, h2, h3⟩ := kk r hr
    refine ⟨h1, h2, fun X hX g1 g2 g3 g4 H locs Lo hR hS hL => ?_⟩
    have k9 := h3 X hX g1 g2 g3 g4 H locs Lo hR hS hL
    have e8 : rv X.E (.ref (SB + 20)) = .ref (X.E.2 20) := by show Value.ref (adr X.E (SB + 20)) = _; rw [adr_s]
    rw [List.map_cons, List.map_cons, e8]
    exact va_sld hX.1.exec hX.1.code hX.2.2.2.2.2.1 hX.2.2.2.2.2.2.1 (show ¬ (X.E.1 ≤ X.E.2 20) by have := hX.2.2.2.2.2.2.1; have := hX.2.2.2.2.2.2.2.1; omega) hS hi hdg k9
  · rw [if_neg hi] at hr
    cases hr
theorem V_lret {v : Int32} {r : Int32 × vMem} (hdg : decode cL_law pc = .ok (.ireturn, 1)) (he : r = (v, σ)) : V (vLP l L xs) (vEmb eI) σ pc ls [.int v] (some r) := by
  intro r' hr
  cases hr
  subst he
  refine ⟨Nat.le_refl _, Nat.le_refl _, fun X hX g1 g2 g3 g4 H locs Lo hR hS hL => ?_⟩
  obtain ⟨hc, h1, h2, h3, h4, h5, h6, h7, h8, h9⟩ := hX
  rw [h9]
  by_cases hv : v = 1
  · subst hv
    have eQ9 : vLQ X.below X.args X.s (vEmb eI ((1 : Int32), σ)) = lw_Z X.below X.args X.s := rfl
    rw [eQ9, h8, h4]
    have g3' : mn σ - X.n0 ≤ X.R.cells := g3
    have g4' : mz σ - X.s0 ≤ X.R.slots := g4
    rw [h4] at g3' g4'
    refine va_forget (fun q hq => ?_) (W.widen g3' g4' (lw_ret hc.exec hc.code hc.hret hc.lock hdg))
    have := hS.2.2 q hq
    have this : X.E.1 ≤ q.base := this
    omega
  · have eQ9 : vLQ X.below X.args X.s (vEmb eI (v, σ)) = fun _ => True := by
      show (if v = 1 then _ else _) = _
      rw [if_neg hv]
    rw [eQ9]
    intro T hT XS
    exact ⟨_, Steps.refl _, trivial⟩
end VLAW
