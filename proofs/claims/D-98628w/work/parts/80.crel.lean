/-! THE COMPONENT's cells hold a state -/
set_option maxRecDepth 100000
def KX (rs : List Nat) (r a k : Nat) : Prop := reg a k ∉ rs ∧ ¬ (a = r ∧ 192 ≤ a ∧ 3 ≤ k ∧ k ≤ 5)
theorem KX_M {rs : List Nat} {r a k : Nat} (h : KM (40 :: rs) a k) : KX rs r a k := by
  refine ⟨fun q => h (List.mem_cons_of_mem _ q), ?_⟩
  rintro ⟨-, h2, -⟩
  exact h (by rw [reg_dyn k h2]; exact List.mem_cons_self)
theorem KX_K {rs : List Nat} {r a k : Nat} (h : KX rs r a k) : KM rs a k := h.1
theorem Fr.toM {rs : List Nat} {r c z : Nat} {σ σ' : vMem} (F : Fr (KX rs r) c z σ σ') : Fr (KM (40 :: rs)) c z σ σ' := F.mono (fun _ _ q => KX_M q)
theorem Fr.toX {rs : List Nat} {r c z : Nat} {σ σ' : vMem} (F : Fr (KM rs) c z σ σ') : Fr (KX rs r) c z σ σ' := F.mono (fun _ _ q => q.1)
section CFR0
variable {rs : List Nat} {r c z : Nat} {σ σ' : vMem}
theorem Fr.subX {rs' : List Nat} (F : Fr (KX rs r) c z σ σ') (h : ∀ x ∈ rs, x ∈ rs') : Fr (KX rs' r) c z σ σ' := F.mono (fun _ _ q => ⟨fun q' => q.1 (h _ q'), q.2⟩)
theorem Fr.wx {a k : Nat} {v : Int32} (F : Fr (KX rs r) c z σ σ') (t : Nat) (h : reg a k = t) (ht : t ∈ rs) : Fr (KX rs r) c z σ (si σ' a k v) := F.wi (fun q => q.1 (by rw [h]; exact ht))
theorem Fr.wxl {a k : Nat} {v : Int64} (F : Fr (KX rs r) c z σ σ') (t : Nat) (h : reg a k = t) (ht : t ∈ rs) : Fr (KX rs r) c z σ (sl σ' a k v) := F.wl (fun q => q.1 (by rw [h]; exact ht))
theorem Fr.wxr {a k : Nat} {v : Option Nat} (F : Fr (KX rs r) c z σ σ') (t : Nat) (h : reg a k = t) (ht : t ∈ rs) : Fr (KX rs r) c z σ (sr σ' a k v) := F.wr (fun q => q.1 (by rw [h]; exact ht))
theorem KX_t {a k t : Nat} (hr : t ∉ rs) (h : reg a k = t) (h2 : a < 192) : KX rs r a k := ⟨by rw [h]; exact hr, by omega⟩
theorem Fr.gX (F : Fr (KX rs r) c z σ σ') {t : Nat} (hr : t ∉ rs) (a k : Nat) (ha : a < mn σ) (h : reg a k = t) (h2 : a < 192) : gi σ' a k = gi σ a k := F.i ha (KX_t hr h h2)
theorem Fr.lX (F : Fr (KX rs r) c z σ σ') {t : Nat} (hr : t ∉ rs) (a k : Nat) (ha : a < mn σ) (h : reg a k = t) (h2 : a < 192) : gl σ' a k = gl σ a k := F.l ha (KX_t hr h h2)
theorem Fr.rX (F : Fr (KX rs r) c z σ σ') {t : Nat} (hr : t ∉ rs) (a k : Nat) (ha : a < mn σ) (h : reg a k = t) (h2 : a < 192) : gr σ' a k = gr σ a k := F.r ha (KX_t hr h h2)
end CFR0
/-! a watch at w -/
def WC (σ : vMem) (w : Nat) (W : Wt) : Prop := (gi σ w 4 = i32 W.now ∧ gi σ w 5 = i32 W.lane ∧ gi σ w 6 = W.hits ∧ gi σ w 7 = i32 W.ways.length ∧ gi σ w 8 = i32 W.given) ∧ (∀ (k : Nat) (q : Od), (srt W.ways)[k]? = some q → gi σ (w + 3) k = i32 q.1 ∧ gi σ (w + 4) k = i32 q.2.1) ∧ ∀ m, m < 8 → gi σ (w + 1) m = i32 (W.food m) ∧ gi σ (w + 2) m = W.hung m
theorem WL.fr {K : Nat → Nat → Prop} {c z : Nat} {σ σ' : vMem} {w : Nat} (h : WL σ w) (F : Fr K c z σ σ') (hw : w + 4 < mn σ) (hK : ∀ k, k < 4 → K w k) : WL σ' w := by
  obtain ⟨h1, h2, h3, h4, h5, h6, h7, h8, h9⟩ := h
  refine ⟨?_, ?_, ?_, ?_, ?_, ?_, ?_, ?_, ?_⟩
  · rw [F.kn (by omega)]; exact h1
  · rw [F.r (by omega) (hK _ (by omega))]; exact h2
  · rw [F.r (by omega) (hK _ (by omega))]; exact h3
  · rw [F.r (by omega) (hK _ (by omega))]; exact h4
  · rw [F.r (by omega) (hK _ (by omega))]; exact h5
  · rw [F.sh (by omega)]; exact h6
  · rw [F.sh (by omega)]; exact h7
  · rw [F.sh (by omega)]; exact h8
  · rw [F.sh (by omega)]; exact h9
theorem WC.fr {K : Nat → Nat → Prop} {c z : Nat} {σ σ' : vMem} {w : Nat} {W : Wt} (h : WC σ w W) (F : Fr K c z σ σ') (hw : w + 4 < mn σ) (hK : ∀ i k, i ≤ 4 → (i = 0 → 4 ≤ k) → K (w + i) k) : WC σ' w W := by
  have e0 : ∀ k, 4 ≤ k → gi σ' w k = gi σ w k := fun k hk => F.i (by omega) (hK 0 k (by omega) (fun _ => hk))
  have e : ∀ i k, i ≤ 4 → 1 ≤ i → gi σ' (w + i) k = gi σ (w + i) k := fun i k hi h1 => F.i (by omega) (hK i k hi (by omega))
  obtain ⟨⟨h1, h2, h3, h4, h5⟩, h6, h7⟩ := h
  refine ⟨⟨?_, ?_, ?_, ?_, ?_⟩, fun k q hq => ?_, fun m hm => ?_⟩
  · rw [e0 _ (by omega)]; exact h1
  · rw [e0 _ (by omega)]; exact h2
  · rw [e0 _ (by omega)]; exact h3
  · rw [e0 _ (by omega)]; exact h4
  · rw [e0 _ (by omega)]; exact h5
  · rw [e 3 k (by omega) (by omega), e 4 k (by omega) (by omega)]; exact h6 k q hq
  · rw [e 1 m (by omega) (by omega), e 2 m (by omega) (by omega)]; exact h7 m hm
def CLX (σ : vMem) : Prop := (CL σ ∧ 192 ≤ mn σ) ∧ WL σ 1 ∧ WL σ 6 ∧ WL σ 11
/-- a byte's worth -/
def sb (z : Int) : Int := if z < 128 then z else z - 256
def cShp (s : Shp) (σ : vMem) : Prop := gi σ 0 8 = i32 s.1 ∧ gi σ 0 9 = i32 s.2.1 ∧ gi σ 0 10 = bitsI s.2.2.2 s.2.1 ∧ ∀ k, k < s.2.1 → gi σ 17 k = i32 (s.2.2.1 k)
def cRck (s : Rck) (σ : vMem) : Prop := gi σ 0 11 = i32 s.1 ∧ ∀ k, k < s.1 → gi σ 18 k = i32 (s.2.1 k) ∧ gi σ 19 k = i32 (s.2.2 k)
def cMes (s : Mes) (σ : vMem) : Prop := gi σ 0 12 = i32 s.1 ∧ gi σ 0 13 = s.2.2 ∧ ∀ k, k < s.1 → gi σ 20 k = i32 (s.2.1 k)
def cUnd (u : List Wt) (σ : vMem) : Prop := gi σ 0 14 = i32 u.length ∧ (∀ k, k < 15 → WL σ (86 + 5 * k)) ∧ ∃ π : Nat → Nat, (∀ k, k < 15 → gr σ 16 k = some (86 + 5 * π k) ∧ π k < 15) ∧ (∀ j k, j < 15 → k < 15 → π j = π k → j = k) ∧ ∀ k W, u[k]? = some W → WC σ (86 + 5 * π k) W
def cTxt (s : Txt) (σ : vMem) : Prop := gi σ 0 16 = i32 s.1 ∧ (∀ k, k < 80 → fits .byte (.int (gi σ 21 k)) = true) ∧ ∀ k, k < s.1 → gi σ 21 k = i32 (sb (s.2 k))
def cRow (s : Row) (σ : vMem) : Prop := gi σ 0 18 = i32 s.1 ∧ ∀ k, k < s.1 → gl σ 22 k = s.2 k
def cSts (s : Sts) (σ : vMem) : Prop := gi σ 0 24 = i32 s.length ∧ gi σ 0 23 = bitsI (fun k => decide (0 ≤ seenF s k)) 25 ∧ ∀ k : Nat, k < 25 → 0 ≤ seenF s k → gi σ 32 k = i32 (seenF s k)
def PgAt (σ : vMem) (ad : Nat) (q : Nat × Wt × Int32) : Prop := 192 ≤ ad ∧ ad + 5 < mn σ ∧ knd σ ad = 16 ∧ gr σ ad 0 = some (ad + 1) ∧ gi σ ad 1 = q.2.2 ∧ WL σ (ad + 1) ∧ WC σ (ad + 1) q.2.1
def cPgs (s : Pgs) (σ : vMem) : Prop := ∀ i, i < 3 → match s i with
  | none => gr σ 85 i = none
  | some q => gr σ 85 i = some q.1 ∧ PgAt σ q.1 q
/-! RULES: a text gone through: its codes, or the place of a fault -/
def opsL (m : Nat) : List Int := if m = 0 then [60, 62, 61] else if m = 1 then [43, 45] else [42, 47]
def opsO (m : Nat) : Int := if m = 0 then 0 else if m = 1 then 3 else 5
def prs (s : Txt) (e : Nat) : Nat → Nat → Nat → Nat → Option (Option (List Int) × Nat)
  | 0, _, _, _ => none
  | n + 1, m, d, p =>
    if m = 3 then
      if tkB s e p 45 then (prs s e n 3 d (p + 1)).map (fun r => (r.1.map (fun cs => cs ++ [3000]), r.2))
      else if dgB s e p then some (some [(numF s e 3 p).1], (numF s e 3 p).2)
      else if 0 ≤ amongF [108, 112, 120, 110] s e p then some (some [1000 + amongF [108, 112, 120, 110] s e p], p + 1)
      else if d = 4 ∨ tkB s e p 40 = false then some (none, p)
      else (prs s e n 0 (d + 1) (p + 1)).map (fun r => match r.1 with
        | none => (none, r.2)
        | some cs => if tkB s e r.2 41 then (some cs, r.2 + 1) else (none, r.2))
    else if m < 3 then
      (prs s e n (m + 1) d p).bind (fun r => match r.1 with
        | none => some (none, r.2)
        | some cs => (prs s e n (m + 4) d r.2).map (fun r' => (r'.1.map (fun cs' => cs ++ cs'), r'.2)))
    else if amongF (opsL (m - 4)) s e p < 0 then some (some [], p)
    else (prs s e n (m - 3) d (p + 1)).bind (fun r => match r.1 with
      | none => some (none, r.2)
      | some cs => if m = 4 then some (some (cs ++ [2000 + amongF (opsL (m - 4)) s e p + opsO (m - 4)]), r.2)
        else (prs s e n m d r.2).map (fun r' => (r'.1.map (fun cs' => cs ++ [2000 + amongF (opsL (m - 4)) s e p + opsO (m - 4)] ++ cs'), r'.2)))
/-- the component's rule at r -/
def RulAt (σ : vMem) (r : Nat) (cs : List Int) : Prop := (192 ≤ r ∧ r < mn σ ∧ knd σ r = 10 ∧ gr σ r 6 = some 0) ∧ ∃ (b : Nat) (t : Txt) (n : Nat), (gr σ r 0 = some b ∧ 192 ≤ b ∧ b < mn σ ∧ σ.2.2.2.1 b = (102, 80)) ∧ gi σ r 1 = i32 t.1 ∧ gi σ r 2 = i32 t.1 ∧ t.1 ≤ 40 ∧ gTxt t ∧ (∀ k, k < t.1 → gi σ b k = i32 (sb (t.2 k))) ∧ prs t t.1 n 0 0 0 = some (some cs, t.1)
def cRul (s : Rul) (σ : vMem) : Prop := (s.1 = [] ∧ gr σ 0 19 = none ∧ s.2 = 0) ∨ (s.1 ≠ [] ∧ gr σ 0 19 = some s.2 ∧ RulAt σ s.2 s.1)
/-- r is the rule's place, or none -/
def RR (r : Nat) (σ : vMem) : Prop := r = 0 ∨ knd σ r = 10
theorem cRul.rr {s : Rul} {σ : vMem} (h : cRul s σ) : RR s.2 σ := by
  rcases h with h | h
  · exact Or.inl h.2.2
  · exact Or.inr h.2.2.1.2.2.1
def RC (S : St) (σ : vMem) : Prop := CLX σ ∧ cShp S.shp σ ∧ cRck S.rck σ ∧ cMes S.mes σ ∧ WC σ 1 S.now ∧ cUnd S.und σ ∧ cTxt S.txt σ ∧ cRow S.row σ ∧ cRul S.rul σ ∧ cSts S.sts σ ∧ cPgs S.pgs σ
section CFR
variable {rs : List Nat} {r c z : Nat} {σ σ' : vMem}
theorem CLX.fr (h : CLX σ) (F : Fr (KX rs r) c z σ σ') (hr : 31 ∉ rs) : CLX σ' := by
  obtain ⟨⟨h1, hn⟩, w1, w6, w11⟩ := h
  refine ⟨⟨⟨?_, fun q hq => ?_⟩, Nat.le_trans hn F.n⟩, ?_, ?_, ?_⟩
  · rw [F.kn (by omega)]; exact h1.1
  · have h2 := h1.2 q hq
    have h3 : reg 0 q.1 = 31 ∧ q.2.1 < 192 := by
      have : ∀ q ∈ CLT, reg 0 q.1 = 31 ∧ q.2.1 < 192 := by decide
      exact this q hq
    rw [F.rX hr 0 q.1 (by omega) h3.1 (by omega), F.sh (by omega)]
    exact h2
  · exact w1.fr F (by omega) (fun k hk => KX_t hr (by show (if k < 4 then 31 else 24) = 31; rw [if_pos hk]) (by omega))
  · exact w6.fr F (by omega) (fun k hk => KX_t hr (by show (if k < 4 then 31 else 20) = 31; rw [if_pos hk]) (by omega))
  · exact w11.fr F (by omega) (fun k hk => KX_t hr (by show (if k < 4 then 31 else 20) = 31; rw [if_pos hk]) (by omega))
theorem cShp.fr {s : Shp} (h : cShp s σ) (F : Fr (KX rs r) c z σ σ') (hn : 192 ≤ mn σ) (hr : 21 ∉ rs) : cShp s σ' := by
  unfold cShp
  rw [F.gX hr 0 8 (by omega) rfl (by omega), F.gX hr 0 9 (by omega) rfl (by omega), F.gX hr 0 10 (by omega) rfl (by omega)]
  exact ⟨h.1, h.2.1, h.2.2.1, fun k hk => by rw [F.gX hr 17 k (by omega) rfl (by omega)]; exact h.2.2.2 k hk⟩
theorem cRck.fr {s : Rck} (h : cRck s σ) (F : Fr (KX rs r) c z σ σ') (hn : 192 ≤ mn σ) (hr : 22 ∉ rs) : cRck s σ' := by
  unfold cRck
  rw [F.gX hr 0 11 (by omega) rfl (by omega)]
  exact ⟨h.1, fun k hk => by rw [F.gX hr 18 k (by omega) rfl (by omega), F.gX hr 19 k (by omega) rfl (by omega)]; exact h.2 k hk⟩
theorem cMes.fr {s : Mes} (h : cMes s σ) (F : Fr (KX rs r) c z σ σ') (hn : 192 ≤ mn σ) (hr : 23 ∉ rs) : cMes s σ' := by
  unfold cMes
  rw [F.gX hr 0 12 (by omega) rfl (by omega), F.gX hr 0 13 (by omega) rfl (by omega)]
  exact ⟨h.1, h.2.1, fun k hk => by rw [F.gX hr 20 k (by omega) rfl (by omega)]; exact h.2.2 k hk⟩
theorem KX_1 (hr : 24 ∉ rs) (i k : Nat) (hi : i ≤ 4) (h : i = 0 → 4 ≤ k) : KX rs r (1 + i) k := by
  have : i = 0 ∨ i = 1 ∨ i = 2 ∨ i = 3 ∨ i = 4 := by omega
  rcases this with rfl | rfl | rfl | rfl | rfl
  · exact KX_t hr (by show (if k < 4 then 31 else 24) = 24; rw [if_neg (by omega)]) (by omega)
  all_goals exact KX_t hr rfl (by omega)
theorem KX_11 (hr : 20 ∉ rs) (i k : Nat) (hi : i ≤ 4) (h : i = 0 → 4 ≤ k) : KX rs r (11 + i) k := by
  have : i = 0 ∨ i = 1 ∨ i = 2 ∨ i = 3 ∨ i = 4 := by omega
  rcases this with rfl | rfl | rfl | rfl | rfl
  · exact KX_t hr (by show (if k < 4 then 31 else 20) = 20; rw [if_neg (by omega)]) (by omega)
  all_goals exact KX_t hr rfl (by omega)
theorem KX_6 (hr : 20 ∉ rs) (i k : Nat) (hi : i ≤ 4) (h : i = 0 → 4 ≤ k) : KX rs r (6 + i) k := by
  have : i = 0 ∨ i = 1 ∨ i = 2 ∨ i = 3 ∨ i = 4 := by omega
  rcases this with rfl | rfl | rfl | rfl | rfl
  · exact KX_t hr (by show (if k < 4 then 31 else 20) = 20; rw [if_neg (by omega)]) (by omega)
  all_goals exact KX_t hr rfl (by omega)
theorem WC.fr1 {W : Wt} (h : WC σ 1 W) (F : Fr (KX rs r) c z σ σ') (hn : 192 ≤ mn σ) (hr : 24 ∉ rs) : WC σ' 1 W := h.fr F (by omega) (KX_1 hr)
theorem WC.fr11 {W : Wt} (h : WC σ 11 W) (F : Fr (KX rs r) c z σ σ') (hn : 192 ≤ mn σ) (hr : 20 ∉ rs) : WC σ' 11 W := h.fr F (by omega) (KX_11 hr)
theorem WC.fr6 {W : Wt} (h : WC σ 6 W) (F : Fr (KX rs r) c z σ σ') (hn : 192 ≤ mn σ) (hr : 20 ∉ rs) : WC σ' 6 W := h.fr F (by omega) (KX_6 hr)
theorem reg_und {j : Nat} (h : j < 75) (k : Nat) : reg (86 + j) k = 25 := by
  have h9 : ∀ j, j < 75 → reg (86 + j) 0 = 25 := by decide
  rw [reg_0 k (by omega) (by omega) (by omega) (by omega) (by omega)]
  exact h9 j h
theorem KX_25 (hr : 25 ∉ rs) {j k : Nat} (h : j < 75) : KX rs r (86 + j) k := KX_t hr (reg_und h k) (by omega)
theorem cUnd.fr {u : List Wt} (h : cUnd u σ) (F : Fr (KX rs r) c z σ σ') (hn : 192 ≤ mn σ) (hr : 25 ∉ rs) (hu : u.length ≤ 15) : cUnd u σ' := by
  obtain ⟨h1, h2, π, h3, h4, h5⟩ := h
  refine ⟨?_, fun k hk => ?_, π, fun k hk => ?_, h4, fun k W hk => ?_⟩
  · rw [F.gX hr 0 14 (by omega) rfl (by omega)]; exact h1
  · exact (h2 k hk).fr F (by omega) (fun j _ => KX_25 hr (by omega))
  · rw [F.rX hr 16 k (by omega) rfl (by omega)]; exact h3 k hk
  · have hk2 : k < u.length := (List.getElem?_eq_some_iff.mp hk).1
    have hp := (h3 k (by omega)).2
    exact (h5 k W hk).fr F (by omega) (fun i j hi _ => by rw [Nat.add_assoc]; exact KX_25 hr (by omega))
theorem cTxt.fr {s : Txt} (h : cTxt s σ) (F : Fr (KX rs r) c z σ σ') (hn : 192 ≤ mn σ) (hr : 26 ∉ rs) : cTxt s σ' := by
  unfold cTxt
  rw [F.gX hr 0 16 (by omega) rfl (by omega)]
  exact ⟨h.1, fun k hk => by rw [F.gX hr 21 k (by omega) rfl (by omega)]; exact h.2.1 k hk, fun k hk => by rw [F.gX hr 21 k (by omega) rfl (by omega)]; exact h.2.2 k hk⟩
theorem cRow.fr {s : Row} (h : cRow s σ) (F : Fr (KX rs r) c z σ σ') (hn : 192 ≤ mn σ) (hr : 27 ∉ rs) : cRow s σ' := by
  unfold cRow
  rw [F.gX hr 0 18 (by omega) rfl (by omega)]
  exact ⟨h.1, fun k hk => by rw [F.lX hr 22 k (by omega) rfl (by omega)]; exact h.2 k hk⟩
theorem cSts.fr {s : Sts} (h : cSts s σ) (F : Fr (KX rs r) c z σ σ') (hn : 192 ≤ mn σ) (hr : 29 ∉ rs) : cSts s σ' := by
  unfold cSts
  rw [F.gX hr 0 24 (by omega) rfl (by omega), F.gX hr 0 23 (by omega) rfl (by omega)]
  exact ⟨h.1, h.2.1, fun k hk => by rw [F.gX hr 32 k (by omega) rfl (by omega)]; exact h.2.2 k hk⟩
theorem RulAt.fr {r' : Nat} {cs : List Int} (h : RulAt σ r' cs) (F : Fr (KX rs r) c z σ σ') (hr : 40 ∉ rs) (hR : RR r σ) : RulAt σ' r' cs := by
  obtain ⟨⟨h1, h2, h3, h4⟩, b, t, n, ⟨h5, h6, h7, h8⟩, h9, h10, h11, h12, h13, h14⟩ := h
  have kb : knd σ b = 102 := by unfold knd; rw [h8]
  have hbr : b ≠ r := by
    rcases hR with h | h
    · omega
    · intro e; rw [e, h] at kb; cases kb
  have K1 : ∀ k, (k < 3 ∨ 5 < k) → KX rs r r' k := fun k hk => ⟨by rw [reg_dyn k h1]; exact hr, by omega⟩
  have K2 : ∀ k, KX rs r b k := fun k => ⟨by rw [reg_dyn k h6]; exact hr, fun q => hbr q.1⟩
  refine ⟨⟨h1, Nat.lt_of_lt_of_le h2 F.n, ?_, ?_⟩, b, t, n, ⟨?_, h6, Nat.lt_of_lt_of_le h7 F.n, ?_⟩, ?_, ?_, h11, h12, fun k hk => ?_, h14⟩
  · rw [F.kn h2]; exact h3
  · rw [F.r h2 (K1 6 (by omega))]; exact h4
  · rw [F.r h2 (K1 0 (by omega))]; exact h5
  · rw [F.sh h7]; exact h8
  · rw [F.i h2 (K1 1 (by omega))]; exact h9
  · rw [F.i h2 (K1 2 (by omega))]; exact h10
  · rw [F.i h7 (K2 k)]; exact h13 k hk
theorem cRul.fr {s : Rul} (h : cRul s σ) (F : Fr (KX rs r) c z σ σ') (hn : 192 ≤ mn σ) (hr : 28 ∉ rs) (hr4 : 40 ∉ rs) (hR : RR r σ) : cRul s σ' := by
  have e : gr σ' 0 19 = gr σ 0 19 := F.rX hr 0 19 (by omega) rfl (by omega)
  rcases h with h | h
  · exact Or.inl (by rw [e]; exact h)
  · exact Or.inr (by rw [e]; exact ⟨h.1, h.2.1, h.2.2.fr F hr4 hR⟩)
theorem PgAt.fr {ad : Nat} {q : Nat × Wt × Int32} (h : PgAt σ ad q) (F : Fr (KX rs r) c z σ σ') (hr4 : 40 ∉ rs) (hR : RR r σ) : PgAt σ' ad q := by
  obtain ⟨h1, h2, h3, h4, h5, h6, h7⟩ := h
  have K : ∀ i k, i ≤ 5 → KX rs r (ad + i) k := by
    intro i k hi
    refine ⟨by rw [reg_dyn k (by omega)]; exact hr4, ?_⟩
    rintro ⟨e, -⟩
    rcases hR with h | h
    · omega
    · rw [← e] at h
      have : i = 0 ∨ i = 1 ∨ i = 2 ∨ i = 3 ∨ i = 4 ∨ i = 5 := by omega
      rcases this with rfl | rfl | rfl | rfl | rfl | rfl
      · rw [Nat.add_zero, h3] at h; cases h
      · rw [h6.k] at h; cases h
      · rw [h6.k1] at h; cases h
      · rw [h6.k2] at h; cases h
      · rw [h6.k3] at h; cases h
      · rw [h6.k4] at h; cases h
  refine ⟨h1, Nat.lt_of_lt_of_le h2 F.n, ?_, ?_, ?_, h6.fr F (by omega) (fun k _ => K 1 k (by omega)), h7.fr F (by omega) (fun i k hi _ => by rw [Nat.add_assoc]; exact K (1 + i) k (by omega))⟩
  · rw [F.kn (by omega)]; exact h3
  · have := F.r (by omega) (K 0 0 (by omega)); rw [Nat.add_zero] at this; rw [this]; exact h4
  · have := F.i (by omega) (K 0 1 (by omega)); rw [Nat.add_zero] at this; rw [this]; exact h5
theorem cPgs.fr {s : Pgs} (h : cPgs s σ) (F : Fr (KX rs r) c z σ σ') (hn : 192 ≤ mn σ) (hr : 30 ∉ rs) (hr4 : 40 ∉ rs) (hR : RR r σ) : cPgs s σ' := by
  intro i hi
  have h1 := h i hi
  have e : gr σ' 85 i = gr σ 85 i := F.rX hr 85 i (by omega) rfl (by omega)
  cases hs : s i with
  | none =>
    rw [hs] at h1
    show gr σ' 85 i = none
    rw [e]; exact h1
  | some q =>
    rw [hs] at h1
    show gr σ' 85 i = some q.1 ∧ PgAt σ' q.1 q
    rw [e]; exact ⟨h1.1, h1.2.fr F hr4 hR⟩
end CFR
