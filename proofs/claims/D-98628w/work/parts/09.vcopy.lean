/-! ROWS: System.arraycopy, an array's clone -/
set_option maxRecDepth 100000
section VCOPY
variable {α : Type} {P : vX → Prop} {emb : α → vRes} {cc : ByteArray} {nL : Nat} {own : String} {ret : Option FieldType} {d : Nat} {σ : vMem} {pc : Nat} {ls : List (Option Value)} {st rest : List Value}
theorem cpi_ent {E : vEnv} {dA : Nat → ClassId} {a sp b dp n x : Nat} (h : x ≠ b) : ent E dA (cpi σ a sp b dp n) x = ent E dA σ x :=
  ent_congr rfl (fun j => by show (if x = b ∧ _ then _ else _) = _; rw [if_neg (fun q => h q.1)]; rfl) (fun _ => rfl) (fun _ => rfl)
theorem cpr_ent {E : vEnv} {dA : Nat → ClassId} {a sp b dp n x : Nat} (h : x ≠ b) : ent E dA (cpr σ a sp b dp n) x = ent E dA σ x :=
  ent_congr rfl (fun _ => rfl) (fun _ => rfl) (fun j => by show (if x = b ∧ _ then _ else _) = _; rw [if_neg (fun q => h q.1)]; rfl)
theorem cpi_gi {a sp b dp n : Nat} : gi (cpi σ a sp b dp n) b = va_cpy (gi σ a) (gi σ b) sp dp n := by
  funext j
  show (if b = b ∧ dp ≤ j ∧ j < dp + n then _ else _) = (if dp ≤ j ∧ j < dp + n then _ else _)
  by_cases h : dp ≤ j ∧ j < dp + n
  · rw [if_pos ⟨rfl, h⟩, if_pos h]; rfl
  · rw [if_neg (fun q => h q.2), if_neg h]; rfl
theorem cpr_gr {E : vEnv} {a sp b dp n : Nat} : (fun j => (gr (cpr σ a sp b dp n) b j).map (adr E)) = va_cpy (fun j => (gr σ a j).map (adr E)) (fun j => (gr σ b j).map (adr E)) sp dp n := by
  funext j
  show (if b = b ∧ dp ≤ j ∧ j < dp + n then σ.2.2.1 a (sp + (j - dp)) else σ.2.2.1 b j).map (adr E) = (if dp ≤ j ∧ j < dp + n then _ else _)
  by_cases h : dp ≤ j ∧ j < dp + n
  · rw [if_pos ⟨rfl, h⟩, if_pos h]; rfl
  · rw [if_neg (fun q => h q.2), if_neg h]; rfl
theorem vRel_app {E : vEnv} {D : va_G} {dA : Nat → ClassId} {H1 : Heap} {q : Nat} {e : va_E} (hP : va_P D vcl (wl E dA σ ++ [(q, e)]) H1) (hD : va_D (vA E) (wl E dA σ ++ [(q, e)])) (hz : H1.size ≤ E.1 + mn σ + 1) : q = E.1 + mn σ ∧ H1.size = E.1 + mn σ + 1 ∧ (∀ b, b < mn σ → va_at D vcl (E.1 + b, ent E dA σ b) H1) ∧ va_at D vcl (E.1 + mn σ, e) H1 := by
  have hl : (wl E dA σ).length = mn σ := wl_len
  have g1 : (wl E dA σ ++ [(q, e)])[mn σ]? = some (q, e) := by rw [List.getElem?_append_right (by omega), hl, Nat.sub_self]; rfl
  have g2 : ∀ b, b < mn σ → (wl E dA σ ++ [(q, e)])[b]? = some (E.1 + b, ent E dA σ b) := fun b hb => by rw [List.getElem?_append_left (by omega)]; exact wl_get hb
  have hq : E.1 ≤ q := hD.2 _ _ g1
  have hlt : q < H1.size := (hP _ _ g1).lt
  have hqe : q = E.1 + mn σ := by
    rcases Nat.lt_or_ge q (E.1 + mn σ) with h | h
    · have h3 := hD.1 (q - E.1) (mn σ) _ _ (g2 (q - E.1) (by omega)) g1 (by show E.1 + (q - E.1) = q; omega)
      omega
    · omega
  subst hqe
  exact ⟨rfl, by omega, fun b hb => hP b _ (g2 b hb), hP _ _ g1⟩
theorem V_cpyI {a b idx : Nat} {sp dp n : Int32} {f : vMem → Option α} (hC : vPx P cc nL own ret d) (hdg : decode cc pc = .ok (.invokestatic idx, 3)) (q1 : Cond.methodLink own idx arraycopyName ∈ lw_all) (q2 : Cond.native arraycopyName ∈ lw_all) (q3 : Cond.static arraycopyName ∈ lw_all) (q4 : Cond.initialized "java/lang/System" ∈ lw_all) (hroom : (rest.map fun v => v.category).sum ≤ 8) (kk : ∀ σ1, V P emb σ1 (pc + 3) ls rest (f σ1)) : V P emb σ pc ls (.int n :: .int dp :: .ref b :: .int sp :: .ref a :: rest) (cpyI σ a sp b dp n f) := by
  intro r hr
  unfold cpyI at hr
  by_cases hh : (knd σ a = 105 ∧ knd σ b = 105) ∧ ¬ sp < 0 ∧ ¬ dp < 0 ∧ ¬ n < 0 ∧ sp.toNatClampNeg + n.toNatClampNeg ≤ len σ a ∧ dp.toNatClampNeg + n.toNatClampNeg ≤ len σ b
  · rw [if_pos hh] at hr
    obtain ⟨⟨hka, hkb⟩, hsp, hdp, hn, hla, hlb⟩ := hh
    obtain ⟨h1, h2, h3⟩ := kk _ r hr
    refine ⟨h1, h2, fun X hX g1 g2 g3 g4 H locs L hR hS hL => ?_⟩
    have hlo := (hC X hX).lo
    have hfr := (hC X hX).fr
    have ha0 : knd σ a ≠ 0 := by rw [hka]; decide
    have hb0 : knd σ b ≠ 0 := by rw [hkb]; decide
    have hbl := hR.lt hb0
    refine va_copyi (hC X hX).exec (hC X hX).code hL.1.symm (hC X hX).hown ((hC X hX).ts _ q1) ((hC X hX).ts _ q2) ((hC X hX).ts _ q3) ((hC X hX).ts _ q4) (hC X hX).kn.1 hR.P wl_D hS a b 4 4 (ty := .int) (by rw [wl_get (hR.lt ha0), hR.adr ha0, ent_int hka (by decide) (by decide)]) (by rw [wl_get hbl, hR.adr hb0, ent_int hkb (by decide) (by decide)]) rfl rfl rfl hsp hdp hn hla hlb (fun _ _ => rfl) (by omega) (by rw [vCat]; show _ + (7 + 11) ≤ _; omega) hdg (fun H1 locs1 hP1 hD1 hS1 => W_size fun hz => ?_)
    rw [hR.adr hb0] at hP1
    rw [(hC X hX).hs] at hz
    exact h3 X hX g1 g2 g3 g4 H1 locs1 L (vRel_set hR hbl hP1 (by omega) rfl hR.2.2.1 (by rw [ent_int (show knd (cpi σ a _ b _ _) b = 105 from hkb) (by decide) (by decide), cpi_gi]; rfl) (fun x hx => cpi_ent hx)) hS1 hL
  · rw [if_neg hh] at hr
    cases hr
theorem V_cpyR {a b idx : Nat} {sp dp n : Int32} {f : vMem → Option α} (hC : vPx P cc nL own ret d) (hdg : decode cc pc = .ok (.invokestatic idx, 3)) (q1 : Cond.methodLink own idx arraycopyName ∈ lw_all) (q2 : Cond.native arraycopyName ∈ lw_all) (q3 : Cond.static arraycopyName ∈ lw_all) (q4 : Cond.initialized "java/lang/System" ∈ lw_all) (hroom : (rest.map fun v => v.category).sum ≤ 8) (kk : ∀ σ1, V P emb σ1 (pc + 3) ls rest (f σ1)) : V P emb σ pc ls (.int n :: .int dp :: .ref b :: .int sp :: .ref a :: rest) (cpyR σ a sp b dp n f) := by
  intro r hr
  unfold cpyR at hr
  by_cases hh : (knd σ a = 110 ∧ knd σ b = 110) ∧ ¬ sp < 0 ∧ ¬ dp < 0 ∧ ¬ n < 0 ∧ sp.toNatClampNeg + n.toNatClampNeg ≤ len σ a ∧ dp.toNatClampNeg + n.toNatClampNeg ≤ len σ b ∧ (List.range n.toNatClampNeg).all (fun i => isW σ (gr σ a (sp.toNatClampNeg + i))) = true
  · rw [if_pos hh] at hr
    obtain ⟨⟨hka, hkb⟩, hsp, hdp, hn, hla, hlb, hall⟩ := hh
    obtain ⟨h1, h2, h3⟩ := kk _ r hr
    refine ⟨h1, h2, fun X hX g1 g2 g3 g4 H locs L hR hS hL => ?_⟩
    have hlo := (hC X hX).lo
    have hfr := (hC X hX).fr
    have ha0 : knd σ a ≠ 0 := by rw [hka]; decide
    have hb0 : knd σ b ≠ 0 := by rw [hkb]; decide
    have hbl := hR.lt hb0
    refine va_copyq (C := "NobodyBeenAft$Watch") (E0 := "NobodyBeenAft$Watch") (E1 := "NobodyBeenAft$Watch") (hC X hX).exec (hC X hX).code hL.1.symm (hC X hX).hown ((hC X hX).ts _ q1) ((hC X hX).ts _ q2) ((hC X hX).ts _ q3) ((hC X hX).ts _ q4) (hC X hX).kn.1 hR.P wl_D hS a b 6 6 (by rw [wl_get (hR.lt ha0), hR.adr ha0, ent_ref hka (by decide)]) (by rw [wl_get hbl, hR.adr hb0, ent_ref hkb (by decide)]) rfl rfl hsp hdp hn hla hlb (fun i hi y hy => ?_) (fun comp c0 e1 e2 => ?_) (by omega) (by rw [vCat]; show _ + (7 + 11) ≤ _; omega) hdg (fun H1 locs1 hP1 hD1 hS1 => W_size fun hz => ?_)
    · have hc := List.all_eq_true.mp hall i (List.mem_range.mpr hi)
      cases hg : gr σ a (sp.toNatClampNeg + i) with
      | none =>
        rw [hg] at hy
        cases hy
      | some z =>
        rw [hg] at hy hc
        cases hy
        have hz : knd σ z = 2 := by simpa [isW] using hc
        exact vRecv hR (hC X hX).kn hz (by decide) (by decide) rfl
    · have h9 : ClassAt X.s "NobodyBeenAft$Watch" (X.D.1 2) := ((hC X hX).kn.1.1 2 _ rfl).2
      have h8 := h9.1
      cases h8.symm.trans e1
      cases h8.symm.trans e2
      exact va_assign h9
    rw [hR.adr hb0] at hP1
    rw [(hC X hX).hs] at hz
    exact h3 X hX g1 g2 g3 g4 H1 locs1 L (vRel_set hR hbl hP1 (by omega) rfl hR.2.2.1 (by rw [ent_ref (show knd (cpr σ a _ b _ _) b = 110 from hkb) (by decide), cpr_gr]; rfl) (fun x hx => cpr_ent hx)) hS1 hL
  · rw [if_neg hh] at hr
    cases hr
/-- a byte array's clone() -/
theorem V_clone {a idx : Nat} {f : Nat → vMem → Option α} (hC : vPx P cc nL own ret d) (hdg : decode cc pc = .ok (.invokevirtual idx, 3)) (q1 : Cond.methodLink own idx ⟨"[B", "clone", "()Ljava/lang/Object;"⟩ ∈ lw_all) (q2 : Cond.sameMethod "[B" "java/lang/Object" "clone" "()Ljava/lang/Object;" ∈ lw_all) (q3 : Cond.native ⟨"java/lang/Object", "clone", "()Ljava/lang/Object;"⟩ ∈ lw_all) (q4 : Cond.instanceMethod ⟨"java/lang/Object", "clone", "()Ljava/lang/Object;"⟩ ∈ lw_all) (q5 : Cond.selects "[B" ⟨"[B", "clone", "()Ljava/lang/Object;"⟩ ⟨"java/lang/Object", "clone", "()Ljava/lang/Object;"⟩ ∈ lw_all) (q6 : Cond.castable "[B" "java/lang/Cloneable" ∈ lw_tbl) (hroom : (rest.map fun v => v.category).sum ≤ 8) (kk : ∀ b σ1, V P emb σ1 (pc + 3) ls (.ref b :: rest) (f b σ1)) : V P emb σ pc ls (.ref a :: rest) (nwc σ a 102 f) := by
  intro r hr
  unfold nwc at hr
  by_cases hh : knd σ a = 102 ∧ mn σ < SB ∧ (List.range (len σ a)).all (fun j => fits .byte (.int (gi σ a j))) = true
  · rw [if_pos hh] at hr
    obtain ⟨hk, hs, hall⟩ := hh
    obtain ⟨h1, h2, h3⟩ := kk _ _ r hr
    have e1 : mn (cln σ a) = mn σ + 1 := rfl
    have e2 : mz (cln σ a) = mz σ + len σ a := rfl
    rw [e1] at h1
    rw [e2] at h2
    refine ⟨by omega, by omega, fun X hX g1 g2 g3 g4 H locs L hR hS hL => ?_⟩
    have hlo := (hC X hX).lo
    have hfr := (hC X hX).fr
    have h0 : knd σ a ≠ 0 := by rw [hk]; decide
    have ha := hR.lt h0
    refine va_clone (hC X hX).exec (hC X hX).code hL.1.symm (hC X hX).hown ((hC X hX).ts _ q1) ((hC X hX).ts _ q2) ((hC X hX).ts _ q3) ((hC X hX).ts _ q4) ((hC X hX).ts _ q5) ((hC X hX).kn.2.1 _ (vNest_in q6 rfl)) (hC X hX).kn.1 hR.P wl_D hS (fun q hq => by show X.E.1 ≤ q; rw [(hC X hX).hs] at hq; omega) a 1 (ty := .byte) (cA := X.dA 102) (x := (len σ a, .inl (gi σ a))) (by rw [wl_get ha, hR.adr h0, ent_int hk (by decide) (by decide)]) rfl ((hC X hX).kn.1.2 1 _ rfl).2 (fun i v hv => ?_) (by omega) (by rw [vCat]; omega) (by omega) (by show _ + len σ a ≤ _; omega) hdg (fun q H1 hK1 hP1 hD1 hS1 => ?_)
    · have hsz : (vp_cell (X.dA 102) (len σ a, .inl (gi σ a))).slots.size = len σ a := by rw [vp_cell_i, arrV_size]
      have hi : i < len σ a := by rw [← hsz]; exact (Array.getElem?_eq_some_iff.mp hv).1
      rw [vp_cell_i, arrV_read _ _ hi] at hv
      cases hv
      exact List.all_eq_true.mp hall i (List.mem_range.mpr hi)
    · refine W.cs (cells' := mn (cln σ a) - X.n0) (slots' := mz (cln σ a) - X.s0) (by rw [e1]; omega) (by rw [e2]; show _ + len σ a = _; omega) (W_size fun hz => ?_)
      rw [(hC X hX).hs, e1] at hz
      obtain ⟨f1, f2, f3, f4⟩ := vRel_app hP1 hD1 (by omega)
      have k9 := h3 X hX (by omega) (by omega) g3 g4 H1 locs L ⟨by rw [e1, f2]; omega, by rw [e1]; omega, fun b hb => ?_, fun b hb => ?_⟩ hS1 hL
      · rw [List.map_cons] at k9
        have e9 : rv X.E (.ref (mn σ)) = .ref q := by show Value.ref (adr X.E (mn σ)) = _; rw [adr_lt hs, f1]
        rw [e9] at k9
        exact k9
      · rw [e1] at hb
        show (if b = mn σ then _ else σ.2.2.2.1 b).1 = 0
        rw [if_neg (by omega)]
        exact hR.2.2.1 b (by omega)
      · rw [e1] at hb
        by_cases hb9 : b = mn σ
        · subst hb9
          have hk9 : knd (cln σ a) (mn σ) = 102 := by
            show (if mn σ = mn σ then (knd σ a, len σ a) else _).1 = 102
            rw [if_pos rfl]
            exact hk
          have hl9 : len (cln σ a) (mn σ) = len σ a := by
            show (if mn σ = mn σ then (knd σ a, len σ a) else _).2 = len σ a
            rw [if_pos rfl]
          have hg9 : gi (cln σ a) (mn σ) = gi σ a := by
            funext j
            show (if mn σ = mn σ then σ.1 a j else _) = gi σ a j
            rw [if_pos rfl]
            rfl
          rw [ent_int hk9 (by decide) (by decide), hl9, hg9]
          exact f4
        · have hlt : b < mn σ := by omega
          rw [ent_congr (σ' := cln σ a) (σ := σ) (b := b) (by show (if b = mn σ then _ else _) = _; rw [if_neg hb9]) (fun j => by show (if b = mn σ then _ else _) = _; rw [if_neg hb9]; rfl) (fun j => by show (if b = mn σ then _ else _) = _; rw [if_neg hb9]; rfl) (fun j => by show (if b = mn σ then _ else _) = _; rw [if_neg hb9]; rfl)]
          exact f3 b hlt
  · rw [if_neg hh] at hr
    cases hr
end VCOPY
