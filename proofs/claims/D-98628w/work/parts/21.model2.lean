/-! MACHINE HALF, printed by gen/build.py: terms (f_), walks (w_), contracts (c_) -/
set_option maxRecDepth 100000
/-! NobodyBeenAftModel.tellsFraction(JJ)V -/
def f_X3_tellsFraction (σ : vMem) (a0 : Nat) (x1 : Int64) (x3 : Int64) : Option (vMem) := bp (f_X3_common 100 σ x1 x3) (fun r => cko σ a0 [3] (vl (si σ a0 1 0) (fun σ_1 => ck (¬ r = 0) (cko σ_1 a0 [3] (bv (f_X3_enters σ_1 a0 (x1 / r)) (fun σ_2 => ck (¬ r = 0) (cko σ_2 a0 [3] (bv (f_X3_enters σ_2 a0 (x3 / r)) (fun σ_3 => some σ_3)))))))))
abbrev P_X3_tellsFraction (l : Launch) (d n0 s0 : Nat) : vX → Prop := vMP l yX3_tellsFraction cX3_tellsFraction 7 none d n0 s0
theorem w_X3_tellsFraction {l : Launch} {d n0 s0 : Nat} (hd : 101 ≤ d) (σ : vMem) (a0 : Nat) (x1 : Int64) (x3 : Int64) : V (P_X3_tellsFraction l d n0 s0) (vEmb eV) σ 0 [some (.ref a0), some (.long x1), none, some (.long x3), none, none, none] [] (f_X3_tellsFraction σ a0 x1 x3) := by
  have hC : vPx (P_X3_tellsFraction l d n0 s0) cX3_tellsFraction 7 "NobodyBeenAftModel" none d := vMP_cx
  refine V_eq (f_X3_tellsFraction.eq_1 ..) ?_
  refine V_lload_n hC dX3_tellsFraction_0 rfl ?_
  refine V_lload_n hC dX3_tellsFraction_1 rfl ?_
  refine V_callS_PL (As := [.long x1, .long x3]) (rest := []) (d' := 100) hC dX3_tellsFraction_2 2 (lw_S q1824 q1825 q87 q1826) (by decide +kernel) rfl rfl (Nat.le_of_ble_eq_true rfl) (Nat.le_trans (by decide) hd) (by decide) vMP_l (fun _ h => c_X3_common (n := 100) (Nat.le_of_ble_eq_true rfl) h) (fun r => ?_)
  refine V_lstore (ls' := [some (.ref a0), some (.long x1), none, some (.long x3), none, some (.long r), none]) hC dX3_tellsFraction_5 (by decide) rfl rfl ?_
  refine V_aload_n hC dX3_tellsFraction_7 rfl ?_
  refine V_iconst (v := 0) hC dX3_tellsFraction_8 rfl ?_
  refine p_X3_110 hC dX3_tellsFraction_9 (fun σ_1 => ?_)
  refine V_aload_n hC dX3_tellsFraction_12 rfl ?_
  refine V_lload_n hC dX3_tellsFraction_13 rfl ?_
  refine V_lload hC dX3_tellsFraction_14 rfl ?_
  refine V_ck (fun h9 => V_ldiv hC dX3_tellsFraction_16 h9 ?_)
  refine V_cko (fun hm => V_callV_V (c := 3) (As := [.long (x1 / r)]) (rest := []) (d' := 0) hC dX3_tellsFraction_17 1 (lw_V q1697 q1699 qs59 q87 q1700) (by decide +kernel) (List.mem_singleton.mp hm) (by decide) (by decide) rfl rfl rfl (Nat.le_of_ble_eq_true rfl) (Nat.le_trans (by decide) hd) (by decide) vMP_l (fun _ h => c_X3_enters (Nat.le_refl _) h) (fun σ_2 => ?_))
  refine V_aload_n hC dX3_tellsFraction_20 rfl ?_
  refine V_lload_n hC dX3_tellsFraction_21 rfl ?_
  refine V_lload hC dX3_tellsFraction_22 rfl ?_
  refine V_ck (fun h9 => V_ldiv hC dX3_tellsFraction_24 h9 ?_)
  refine V_cko (fun hm => V_callV_V (c := 3) (As := [.long (x3 / r)]) (rest := []) (d' := 0) hC dX3_tellsFraction_25 1 (lw_V q1697 q1699 qs59 q87 q1700) (by decide +kernel) (List.mem_singleton.mp hm) (by decide) (by decide) rfl rfl rfl (Nat.le_of_ble_eq_true rfl) (Nat.le_trans (by decide) hd) (by decide) vMP_l (fun _ h => c_X3_enters (Nat.le_refl _) h) (fun σ_3 => ?_))
  exact V_return dX3_tellsFraction_28 rfl rfl
theorem c_X3_tellsFraction {l : Launch} {d : Nat} (hd : 101 ≤ d) {σ : vMem} {a0 : Nat} {x1 : Int64} {x3 : Int64} {r : vMem} (h : f_X3_tellsFraction σ a0 x1 x3 = some r) : vOk l yX3_tellsFraction cX3_tellsFraction 7 none d [.ref a0, .long x1, .long x3] σ (.inl ((eV).1 r, (eV).2 r)) := V_method (em := eV) [some (.ref a0), some (.long x1), none, some (.long x3), none, none, none] (by decide +kernel) rfl (Nat.le_of_ble_eq_true rfl) (w_X3_tellsFraction hd σ a0 x1 x3) h
/-! NobodyBeenAftModel.word(II)I -/
def f_X3_word (σ : vMem) (a0 : Nat) (x1 : Int32) (x2 : Int32) : Option (Int32 × vMem) := cko σ a0 [3] (vl (si σ a0 0 0) (fun σ_1 => bp (f_X3_in σ_1 (Int32.toInt64 x1) 1 15) (fun r => if r = 0 then (some ((-1), σ_1)) else if (x1 - (x1 / 2) * 2) = 0 then (some ((-1), σ_1)) else bp (f_X3_in σ_1 (Int32.toInt64 x2) 0 10) (fun r_1 => if ¬ r_1 = 0 then (cko σ_1 a0 [3] (bv (f_X3_bets σ_1 a0 x1 x2) (fun σ_2 => cko σ_2 a0 [3] (cko σ_2 a0 [3] (cko σ_2 a0 [3] (bv (f_X3_tellsFraction σ_2 a0 (gl σ_2 a0 39) (gl σ_2 a0 40)) (fun σ_3 => some (0, σ_3)))))))) else some ((-1), σ_1)))))
abbrev P_X3_word (l : Launch) (d n0 s0 : Nat) : vX → Prop := vMP l yX3_word cX3_word 3 (some .int) d n0 s0
theorem w_X3_word {l : Launch} {d n0 s0 : Nat} (hd : 102 ≤ d) (σ : vMem) (a0 : Nat) (x1 : Int32) (x2 : Int32) : V (P_X3_word l d n0 s0) (vEmb eI) σ 0 [some (.ref a0), some (.int x1), some (.int x2)] [] (f_X3_word σ a0 x1 x2) := by
  have hC : vPx (P_X3_word l d n0 s0) cX3_word 3 "NobodyBeenAftModel" (some .int) d := vMP_cx
  refine V_eq (f_X3_word.eq_1 ..) ?_
  refine V_aload_n hC dX3_word_0 rfl ?_
  refine V_iconst (v := 0) hC dX3_word_1 rfl ?_
  refine p_X3_103 hC dX3_word_2 (fun σ_1 => ?_)
  refine V_iload_n hC dX3_word_5 rfl ?_
  refine V_i2l hC dX3_word_6 ?_
  refine V_lconst (v := 1) hC dX3_word_7 rfl ?_
  refine V_ldc2 hC dX3_word_8 q1815 ?_
  refine V_callS_PI (As := [.long (Int32.toInt64 x1), .long 1, .long 15]) (rest := []) (d' := 0) hC dX3_word_11 3 (lw_S q1448 q1449 q87 q1450) (by decide +kernel) rfl rfl (Nat.le_of_ble_eq_true rfl) (Nat.le_trans (by decide) hd) (by decide) vMP_l (fun _ h => c_X3_in (Nat.le_refl _) h) (fun r => ?_)
  refine V_if_eq (tgt := 35) hC dX3_word_14 (by decide) ?_ ?_
  · refine V_iconst (v := (-1)) hC dX3_word_35 rfl ?_
    exact V_ireturn dX3_word_36 rfl rfl
  · refine V_iload_n hC dX3_word_17 rfl ?_
    refine V_iconst (v := 2) hC dX3_word_18 rfl ?_
    refine V_irem hC dX3_word_19 (by decide) ?_
    refine V_if_eq (tgt := 35) hC dX3_word_20 (by decide) ?_ ?_
    · refine V_iconst (v := (-1)) hC dX3_word_35 rfl ?_
      exact V_ireturn dX3_word_36 rfl rfl
    · refine V_iload_n hC dX3_word_23 rfl ?_
      refine V_i2l hC dX3_word_24 ?_
      refine V_lconst (v := 0) hC dX3_word_25 rfl ?_
      refine V_ldc2 hC dX3_word_26 q1801 ?_
      refine V_callS_PI (As := [.long (Int32.toInt64 x2), .long 0, .long 10]) (rest := []) (d' := 0) hC dX3_word_29 3 (lw_S q1448 q1449 q87 q1450) (by decide +kernel) rfl rfl (Nat.le_of_ble_eq_true rfl) (Nat.le_trans (by decide) hd) (by decide) vMP_l (fun _ h => c_X3_in (Nat.le_refl _) h) (fun r_1 => ?_)
      refine V_if_ne (tgt := 37) hC dX3_word_32 (by decide) ?_ ?_
      · refine V_aload_n hC dX3_word_37 rfl ?_
        refine V_iload_n hC dX3_word_38 rfl ?_
        refine V_iload_n hC dX3_word_39 rfl ?_
        refine V_cko (fun hm => V_callV_V (c := 3) (As := [.int x1, .int x2]) (rest := []) (d' := 0) hC dX3_word_40 2 (lw_V q1816 q1818 qs72 q87 q1819) (by decide +kernel) (List.mem_singleton.mp hm) (by decide) (by decide) rfl rfl rfl (Nat.le_of_ble_eq_true rfl) (Nat.le_trans (by decide) hd) (by decide) vMP_l (fun _ h => c_X3_bets (Nat.le_refl _) h) (fun σ_2 => ?_))
        refine V_aload_n hC dX3_word_43 rfl ?_
        refine V_aload_n hC dX3_word_44 rfl ?_
        refine g_X3_382 hC dX3_word_45 ?_
        refine V_aload_n hC dX3_word_48 rfl ?_
        refine g_X3_386 hC dX3_word_49 ?_
        refine V_cko (fun hm => V_callV_V (c := 3) (As := [.long (gl σ_2 a0 39), .long (gl σ_2 a0 40)]) (rest := []) (d' := 101) hC dX3_word_52 2 (lw_V q1820 q1822 qs73 q87 q1823) (by decide +kernel) (List.mem_singleton.mp hm) (by decide) (by decide) rfl rfl rfl (Nat.le_of_ble_eq_true rfl) (Nat.le_trans (by decide) hd) (by decide) vMP_l (fun _ h => c_X3_tellsFraction (Nat.le_refl _) h) (fun σ_3 => ?_))
        refine V_iconst (v := 0) hC dX3_word_55 rfl ?_
        exact V_ireturn dX3_word_56 rfl rfl
      · refine V_iconst (v := (-1)) hC dX3_word_35 rfl ?_
        exact V_ireturn dX3_word_36 rfl rfl
theorem c_X3_word {l : Launch} {d : Nat} (hd : 102 ≤ d) {σ : vMem} {a0 : Nat} {x1 : Int32} {x2 : Int32} {r : Int32 × vMem} (h : f_X3_word σ a0 x1 x2 = some r) : vOk l yX3_word cX3_word 3 (some .int) d [.ref a0, .int x1, .int x2] σ (.inl ((eI).1 r, (eI).2 r)) := V_method (em := eI) [some (.ref a0), some (.int x1), some (.int x2)] (by decide +kernel) rfl (Nat.le_of_ble_eq_true rfl) (w_X3_word hd σ a0 x1 x2) h
/-! NobodyBeenAftModel.survives(II)I -/
def f_X3_survives_33 (a0 : Nat) (x1 : Int32) (x2 : Int32) : Nat → vMem → Int32 → Option (Int32 × vMem)
  | 0, _, _ => none
  | n + 1, σ_2, v3 => if 15 < v3 then (some ((-2), σ_2)) else cko σ_2 a0 [3] (bv (f_X3_bets σ_2 a0 v3 x1) (fun σ_3 => cko σ_3 a0 [3] (cko σ_3 a0 [3] (if (lg_cmp (100 * (gl σ_3 a0 39)) ((Int32.toInt64 x2) * (gl σ_3 a0 40))) < 0 then (vl (v3 + 2) (fun v3_1 => f_X3_survives_33 a0 x1 x2 n σ_3 v3_1)) else some (v3, σ_3)))))
def f_X3_survives (σ : vMem) (a0 : Nat) (x1 : Int32) (x2 : Int32) : Option (Int32 × vMem) := cko σ a0 [3] (vl (si σ a0 0 0) (fun σ_1 => bp (f_X3_in σ_1 (Int32.toInt64 x1) 0 10) (fun r => if r = 0 then (some ((-1), σ_1)) else bp (f_X3_in σ_1 (Int32.toInt64 x2) 0 100) (fun r_1 => if ¬ r_1 = 0 then (f_X3_survives_33 a0 x1 x2 FU σ_1 1) else some ((-1), σ_1)))))
abbrev P_X3_survives (l : Launch) (d n0 s0 : Nat) : vX → Prop := vMP l yX3_survives cX3_survives 4 (some .int) d n0 s0
theorem w_X3_survives_33 {l : Launch} {d n0 s0 : Nat} (hd : 1 ≤ d) (a0 : Nat) (x1 : Int32) (x2 : Int32)  : ∀ (n : Nat) (σ_2 : vMem) (v3 : Int32), V (P_X3_survives l d n0 s0) (vEmb eI) σ_2 33 [some (.ref a0), some (.int x1), some (.int x2), some (.int v3)] [] (f_X3_survives_33 a0 x1 x2 n σ_2 v3) := by
  have hC : vPx (P_X3_survives l d n0 s0) cX3_survives 4 "NobodyBeenAftModel" (some .int) d := vMP_cx
  intro n
  induction n with
  | zero =>
    intro σ_2 v3
    exact V_none
  | succ n ih =>
    intro σ_2 v3
    refine V_eq (f_X3_survives_33.eq_2 ..) ?_
    refine V_iload_n hC dX3_survives_33 rfl ?_
    refine V_bipush (v := 15) hC dX3_survives_34 rfl ?_
    refine V_icmp_gt (tgt := 72) hC dX3_survives_36 (by decide) ?_ ?_
    · refine V_bipush (v := (-2)) hC dX3_survives_72 rfl ?_
      exact V_ireturn dX3_survives_74 rfl rfl
    · refine V_aload_n hC dX3_survives_39 rfl ?_
      refine V_iload_n hC dX3_survives_40 rfl ?_
      refine V_iload_n hC dX3_survives_41 rfl ?_
      refine V_cko (fun hm => V_callV_V (c := 3) (As := [.int v3, .int x1]) (rest := []) (d' := 0) hC dX3_survives_42 2 (lw_V q1816 q1818 qs72 q87 q1819) (by decide +kernel) (List.mem_singleton.mp hm) (by decide) (by decide) rfl rfl rfl (Nat.le_of_ble_eq_true rfl) (Nat.le_trans (by decide) hd) (by decide) vMP_l (fun _ h => c_X3_bets (Nat.le_refl _) h) (fun σ_3 => ?_))
      refine V_ldc2 hC dX3_survives_45 q1831 ?_
      refine V_aload_n hC dX3_survives_48 rfl ?_
      refine g_X3_382 hC dX3_survives_49 ?_
      refine V_lmul hC dX3_survives_52 ?_
      refine V_iload_n hC dX3_survives_53 rfl ?_
      refine V_i2l hC dX3_survives_54 ?_
      refine V_aload_n hC dX3_survives_55 rfl ?_
      refine g_X3_386 hC dX3_survives_56 ?_
      refine V_lmul hC dX3_survives_59 ?_
      refine V_lcmp hC dX3_survives_60 ?_
      refine V_if_lt (tgt := 66) hC dX3_survives_61 (by decide) ?_ ?_
      · refine V_iincL (v := v3 + 2) (ls' := fun v3_1 => [some (.ref a0), some (.int x1), some (.int x2), some (.int v3_1)]) hC dX3_survives_66 rfl (by decide) rfl rfl (fun _ => rfl) (fun v3_1 => ?_)
        refine V_goto (tgt := 33) hC dX3_survives_69 (by decide) ?_
        exact ih σ_3 v3_1
      · refine V_iload_n hC dX3_survives_64 rfl ?_
        exact V_ireturn dX3_survives_65 rfl rfl
theorem w_X3_survives {l : Launch} {d n0 s0 : Nat} (hd : 1 ≤ d) (σ : vMem) (a0 : Nat) (x1 : Int32) (x2 : Int32) : V (P_X3_survives l d n0 s0) (vEmb eI) σ 0 [some (.ref a0), some (.int x1), some (.int x2), none] [] (f_X3_survives σ a0 x1 x2) := by
  have hC : vPx (P_X3_survives l d n0 s0) cX3_survives 4 "NobodyBeenAftModel" (some .int) d := vMP_cx
  refine V_eq (f_X3_survives.eq_1 ..) ?_
  refine V_aload_n hC dX3_survives_0 rfl ?_
  refine V_iconst (v := 0) hC dX3_survives_1 rfl ?_
  refine p_X3_103 hC dX3_survives_2 (fun σ_1 => ?_)
  refine V_iload_n hC dX3_survives_5 rfl ?_
  refine V_i2l hC dX3_survives_6 ?_
  refine V_lconst (v := 0) hC dX3_survives_7 rfl ?_
  refine V_ldc2 hC dX3_survives_8 q1801 ?_
  refine V_callS_PI (As := [.long (Int32.toInt64 x1), .long 0, .long 10]) (rest := []) (d' := 0) hC dX3_survives_11 3 (lw_S q1448 q1449 q87 q1450) (by decide +kernel) rfl rfl (Nat.le_of_ble_eq_true rfl) (Nat.le_trans (by decide) hd) (by decide) vMP_l (fun _ h => c_X3_in (Nat.le_refl _) h) (fun r => ?_)
  refine V_if_eq (tgt := 29) hC dX3_survives_14 (by decide) ?_ ?_
  · refine V_iconst (v := (-1)) hC dX3_survives_29 rfl ?_
    exact V_ireturn dX3_survives_30 rfl rfl
  · refine V_iload_n hC dX3_survives_17 rfl ?_
    refine V_i2l hC dX3_survives_18 ?_
    refine V_lconst (v := 0) hC dX3_survives_19 rfl ?_
    refine V_ldc2 hC dX3_survives_20 q1831 ?_
    refine V_callS_PI (As := [.long (Int32.toInt64 x2), .long 0, .long 100]) (rest := []) (d' := 0) hC dX3_survives_23 3 (lw_S q1448 q1449 q87 q1450) (by decide +kernel) rfl rfl (Nat.le_of_ble_eq_true rfl) (Nat.le_trans (by decide) hd) (by decide) vMP_l (fun _ h => c_X3_in (Nat.le_refl _) h) (fun r_1 => ?_)
    refine V_if_ne (tgt := 31) hC dX3_survives_26 (by decide) ?_ ?_
    · refine V_iconst (v := 1) hC dX3_survives_31 rfl ?_
      refine V_istore_n (ls' := [some (.ref a0), some (.int x1), some (.int x2), some (.int 1)]) hC dX3_survives_32 (by decide) rfl rfl ?_
      exact (w_X3_survives_33 hd a0 x1 x2) FU σ_1 1
    · refine V_iconst (v := (-1)) hC dX3_survives_29 rfl ?_
      exact V_ireturn dX3_survives_30 rfl rfl
theorem c_X3_survives {l : Launch} {d : Nat} (hd : 1 ≤ d) {σ : vMem} {a0 : Nat} {x1 : Int32} {x2 : Int32} {r : Int32 × vMem} (h : f_X3_survives σ a0 x1 x2 = some r) : vOk l yX3_survives cX3_survives 4 (some .int) d [.ref a0, .int x1, .int x2] σ (.inl ((eI).1 r, (eI).2 r)) := V_method (em := eI) [some (.ref a0), some (.int x1), some (.int x2), none] (by decide +kernel) rfl (Nat.le_of_ble_eq_true rfl) (w_X3_survives hd σ a0 x1 x2) h
/-! NobodyBeenAftModel.lastsFor(II)I -/
def f_X3_lastsFor_8 (σ : vMem) (a0 : Nat) (x2 : Int32) (k : Int32 → Int32 → Option (Int32)) : Nat → Int32 → Int32 → Int32 → Option (Int32)
  | 0, _, _, _ => none
  | n + 1, v3_1, v4_1, v5 => if x2 < v5 then (k v3_1 v4_1) else cko σ a0 [3] (dr (gr σ a0 14) (fun b => cka σ b 105 (41 + v5) (vl (v3_1 + (gi σ b (Int32.toNatClampNeg (41 + v5)))) (fun v3_2 => cko σ a0 [3] (dr (gr σ a0 13) (fun b_1 => cka σ b_1 105 v5 (vl (v4_1 + (gi σ b_1 (Int32.toNatClampNeg v5))) (fun v4_2 => vl (v5 + 1) (fun v5_1 => f_X3_lastsFor_8 σ a0 x2 k n v3_2 v4_2 v5_1)))))))))
def f_X3_lastsFor (σ : vMem) (a0 : Nat) (x1 : Int32) (x2 : Int32) : Option (Int32) := vl (fun (v3 : Int32) (v4 : Int32) => if ¬ v4 = 0 then (ck (¬ v4 = 0) (some (v3 / v4))) else some 99999) (fun k => f_X3_lastsFor_8 σ a0 x2 k FU 0 0 x1)
abbrev P_X3_lastsFor (l : Launch) (d n0 s0 : Nat) : vX → Prop := vMP l yX3_lastsFor cX3_lastsFor 6 (some .int) d n0 s0
theorem w_X3_lastsFor_8 {l : Launch} {d n0 s0 : Nat} (hd : 0 ≤ d) (σ : vMem) (a0 : Nat) (x2 : Int32) (k : Int32 → Int32 → Option (Int32)) (hk : ∀ (v3 : Int32), ∀ (v4 : Int32), V (P_X3_lastsFor l d n0 s0) (vEmb (ePI σ)) σ 45 [none, none, none, some (.int v3), some (.int v4), none] [] (k v3 v4)) : ∀ (n : Nat) (v3_1 : Int32) (v4_1 : Int32) (v5 : Int32), V (P_X3_lastsFor l d n0 s0) (vEmb (ePI σ)) σ 8 [some (.ref a0), none, some (.int x2), some (.int v3_1), some (.int v4_1), some (.int v5)] [] (f_X3_lastsFor_8 σ a0 x2 k n v3_1 v4_1 v5) := by
  have hC : vPx (P_X3_lastsFor l d n0 s0) cX3_lastsFor 6 "NobodyBeenAftModel" (some .int) d := vMP_cx
  intro n
  induction n with
  | zero =>
    intro v3_1 v4_1 v5
    exact V_none
  | succ n ih =>
    intro v3_1 v4_1 v5
    refine V_eq (f_X3_lastsFor_8.eq_2 ..) ?_
    refine V_iload hC dX3_lastsFor_8 rfl ?_
    refine V_iload_n hC dX3_lastsFor_10 rfl ?_
    refine V_icmp_gt (tgt := 45) hC dX3_lastsFor_11 (by decide) ?_ ?_
    · refine V_clr [0, 2, 5] (ls' := [none, none, none, some (.int v3_1), some (.int v4_1), none]) rfl ?_
      exact hk v3_1 v4_1
    · refine V_iload_n hC dX3_lastsFor_14 rfl ?_
      refine V_aload_n hC dX3_lastsFor_15 rfl ?_
      refine g_X3_34 hC dX3_lastsFor_16 (fun b => ?_)
      refine V_bipush (v := 41) hC dX3_lastsFor_19 rfl ?_
      refine V_iload hC dX3_lastsFor_21 rfl ?_
      refine V_iadd hC dX3_lastsFor_23 ?_
      refine V_iald hC dX3_lastsFor_24 ?_
      refine V_iadd hC dX3_lastsFor_25 ?_
      refine V_istore_nL (ls' := fun v3_2 => [some (.ref a0), none, some (.int x2), some (.int v3_2), some (.int v4_1), some (.int v5)]) hC dX3_lastsFor_26 (by decide) rfl (fun _ => rfl) (fun v3_2 => ?_)
      refine V_iload hC dX3_lastsFor_27 rfl ?_
      refine V_aload_n hC dX3_lastsFor_29 rfl ?_
      refine g_X3_31 hC dX3_lastsFor_30 (fun b_1 => ?_)
      refine V_iload hC dX3_lastsFor_33 rfl ?_
      refine V_iald hC dX3_lastsFor_35 ?_
      refine V_iadd hC dX3_lastsFor_36 ?_
      refine V_istoreL (ls' := fun v4_2 => [some (.ref a0), none, some (.int x2), some (.int v3_2), some (.int v4_2), some (.int v5)]) hC dX3_lastsFor_37 (by decide) rfl (fun _ => rfl) (fun v4_2 => ?_)
      refine V_iincL (v := v5 + 1) (ls' := fun v5_1 => [some (.ref a0), none, some (.int x2), some (.int v3_2), some (.int v4_2), some (.int v5_1)]) hC dX3_lastsFor_39 rfl (by decide) rfl rfl (fun _ => rfl) (fun v5_1 => ?_)
      refine V_goto (tgt := 8) hC dX3_lastsFor_42 (by decide) ?_
      exact ih v3_2 v4_2 v5_1
theorem w_X3_lastsFor {l : Launch} {d n0 s0 : Nat} (hd : 0 ≤ d) (σ : vMem) (a0 : Nat) (x1 : Int32) (x2 : Int32) : V (P_X3_lastsFor l d n0 s0) (vEmb (ePI σ)) σ 0 [some (.ref a0), some (.int x1), some (.int x2), none, none, none] [] (f_X3_lastsFor σ a0 x1 x2) := by
  have hC : vPx (P_X3_lastsFor l d n0 s0) cX3_lastsFor 6 "NobodyBeenAftModel" (some .int) d := vMP_cx
  refine V_eq (f_X3_lastsFor.eq_1 ..) ?_
  refine V_iconst (v := 0) hC dX3_lastsFor_0 rfl ?_
  refine V_istore_n (ls' := [some (.ref a0), some (.int x1), some (.int x2), some (.int 0), none, none]) hC dX3_lastsFor_1 (by decide) rfl rfl ?_
  refine V_iconst (v := 0) hC dX3_lastsFor_2 rfl ?_
  refine V_istore (ls' := [some (.ref a0), some (.int x1), some (.int x2), some (.int 0), some (.int 0), none]) hC dX3_lastsFor_3 (by decide) rfl rfl ?_
  refine V_iload_n hC dX3_lastsFor_5 rfl ?_
  refine V_istore (ls' := [some (.ref a0), some (.int x1), some (.int x2), some (.int 0), some (.int 0), some (.int x1)]) hC dX3_lastsFor_6 (by decide) rfl rfl ?_
  refine V_let (B := fun k => ∀ (v3 : Int32), ∀ (v4 : Int32), V (P_X3_lastsFor l d n0 s0) (vEmb (ePI σ)) σ 45 [none, none, none, some (.int v3), some (.int v4), none] [] (k v3 v4)) ?_ ?_
  · intro v3 v4
    refine V_iload hC dX3_lastsFor_45 rfl ?_
    refine V_if_ne (tgt := 56) hC dX3_lastsFor_47 (by decide) ?_ ?_
    · refine V_iload_n hC dX3_lastsFor_56 rfl ?_
      refine V_iload hC dX3_lastsFor_57 rfl ?_
      refine V_ck (fun h9 => V_idiv hC dX3_lastsFor_59 h9 ?_)
      exact V_ireturn dX3_lastsFor_60 rfl rfl
    · refine V_ldcw hC dX3_lastsFor_50 q1840 ?_
      refine V_goto (tgt := 60) hC dX3_lastsFor_53 (by decide) ?_
      exact V_ireturn dX3_lastsFor_60 rfl rfl
  · intro k hk
    refine V_clr [1] (ls' := [some (.ref a0), none, some (.int x2), some (.int 0), some (.int 0), some (.int x1)]) rfl ?_
    exact (w_X3_lastsFor_8 hd σ a0 x2 k hk) FU 0 0 x1
theorem c_X3_lastsFor {l : Launch} {d : Nat} (hd : 0 ≤ d) {σ : vMem} {a0 : Nat} {x1 : Int32} {x2 : Int32} {r : Int32} (h : f_X3_lastsFor σ a0 x1 x2 = some r) : vOk l yX3_lastsFor cX3_lastsFor 6 (some .int) d [.ref a0, .int x1, .int x2] σ (.inl (((ePI σ)).1 r, ((ePI σ)).2 r)) := V_method (em := (ePI σ)) [some (.ref a0), some (.int x1), some (.int x2), none, none, none] (by decide +kernel) rfl (Nat.le_of_ble_eq_true rfl) (w_X3_lastsFor hd σ a0 x1 x2) h
/-! NobodyBeenAftModel.lives(I)I -/
def f_X3_lives_70 (a0 : Nat) (x1 : Int32) (σ_1 : vMem) (k_2 : Int32 → Int32 → Option (Int32 × vMem)) : Nat → Int32 → Int32 → Int32 → Option (Int32 × vMem)
  | 0, _, _, _ => none
  | n + 1, v2_1, v3_1, v4 => cko σ_1 a0 [3] (if (gi σ_1 a0 7) ≤ v4 then (k_2 v2_1 v3_1) else if 3 ≤ x1 then (k_2 v2_1 v3_1) else vl (fun (y_2 : Int32) => vl (fun (y_3 : Int32) => cko σ_1 a0 [3] (bp (f_X3_lastsFor σ_1 a0 y_2 y_3) (fun r_1 => vl (fun (y_4 : Int32) => vl (imin v2_1 r_1) (fun v2_2 => vl (v4 + 1) (fun v4_1 => f_X3_lives_70 a0 x1 σ_1 k_2 n v2_2 y_4 v4_1))) (fun k_5 => if v2_1 ≤ r_1 then (k_5 v3_1) else k_5 v4)))) (fun k_4 => if ¬ x1 = 2 then (k_4 v4) else cko σ_1 a0 [3] (k_4 ((gi σ_1 a0 7) - 1)))) (fun k_3 => if ¬ x1 = 1 then (k_3 v4) else k_3 0))
def f_X3_lives (σ : vMem) (a0 : Nat) (x1 : Int32) : Option (Int32 × vMem) := cko σ a0 [3] (vl (si σ a0 0 0) (fun σ_1 => bp (f_X3_in σ_1 (Int32.toInt64 x1) 0 3) (fun r => if r = 0 then (some ((-1), σ_1)) else cko σ_1 a0 [3] (if ¬ (gi σ_1 a0 7) = 0 then (vl (fun (y : Int32) => vl (fun (y_1 : Int32) => vl (fun (v2 : Int32) (v3 : Int32) => cko σ_1 a0 [3] (vl (si σ_1 a0 1 0) (fun σ_2 => cko σ_2 a0 [3] (bv (f_X3_enters σ_2 a0 (Int32.toInt64 v3)) (fun σ_3 => some (v2, σ_3)))))) (fun k_2 => f_X3_lives_70 a0 x1 σ_1 k_2 FU y y_1 0)) (fun k_1 => vl (k_1 (-1)) (fun k_6 => if ¬ x1 = 3 then k_6 else if 99999 ≤ y then k_6 else k_1 0))) (fun k => if ¬ x1 = 3 then (k 99999) else cko σ_1 a0 [3] (cko σ_1 a0 [3] (bp (f_X3_lastsFor σ_1 a0 0 ((gi σ_1 a0 7) - 1)) (fun r_2 => k r_2))))) else some ((-1), σ_1)))))
abbrev P_X3_lives (l : Launch) (d n0 s0 : Nat) : vX → Prop := vMP l yX3_lives cX3_lives 6 (some .int) d n0 s0
theorem w_X3_lives_70 {l : Launch} {d n0 s0 : Nat} (hd : 1 ≤ d) (a0 : Nat) (x1 : Int32) (σ_1 : vMem) (k_2 : Int32 → Int32 → Option (Int32 × vMem)) (hk_2 : ∀ (v2 : Int32), ∀ (v3 : Int32), V (P_X3_lives l d n0 s0) (vEmb eI) σ_1 143 [some (.ref a0), none, some (.int v2), some (.int v3), none, none] [] (k_2 v2 v3)) : ∀ (n : Nat) (v2_1 : Int32) (v3_1 : Int32) (v4 : Int32), V (P_X3_lives l d n0 s0) (vEmb eI) σ_1 70 [some (.ref a0), some (.int x1), some (.int v2_1), some (.int v3_1), some (.int v4), none] [] (f_X3_lives_70 a0 x1 σ_1 k_2 n v2_1 v3_1 v4) := by
  have hC : vPx (P_X3_lives l d n0 s0) cX3_lives 6 "NobodyBeenAftModel" (some .int) d := vMP_cx
  intro n
  induction n with
  | zero =>
    intro v2_1 v3_1 v4
    exact V_none
  | succ n ih =>
    intro v2_1 v3_1 v4
    refine V_eq (f_X3_lives_70.eq_2 ..) ?_
    refine V_iload hC dX3_lives_70 rfl ?_
    refine V_aload_n hC dX3_lives_72 rfl ?_
    refine g_X3_117 hC dX3_lives_73 ?_
    refine V_icmp_ge (tgt := 143) hC dX3_lives_76 (by decide) ?_ ?_
    · refine V_clr [1, 4] (ls' := [some (.ref a0), none, some (.int v2_1), some (.int v3_1), none, none]) rfl ?_
      exact hk_2 v2_1 v3_1
    · refine V_iload_n hC dX3_lives_79 rfl ?_
      refine V_iconst (v := 3) hC dX3_lives_80 rfl ?_
      refine V_icmp_ge (tgt := 143) hC dX3_lives_81 (by decide) ?_ ?_
      · refine V_clr [1, 4] (ls' := [some (.ref a0), none, some (.int v2_1), some (.int v3_1), none, none]) rfl ?_
        exact hk_2 v2_1 v3_1
      · refine V_aload_n hC dX3_lives_84 rfl ?_
        refine V_iload_n hC dX3_lives_85 rfl ?_
        refine V_iconst (v := 1) hC dX3_lives_86 rfl ?_
        refine V_let (B := fun k_3 => ∀ (y_2 : Int32), V (P_X3_lives l d n0 s0) (vEmb eI) σ_1 96 [some (.ref a0), some (.int x1), some (.int v2_1), some (.int v3_1), some (.int v4), none] [.int y_2, .ref a0] (k_3 y_2)) ?_ ?_
        · intro y_2
          refine V_iload_n hC dX3_lives_96 rfl ?_
          refine V_iconst (v := 2) hC dX3_lives_97 rfl ?_
          refine V_let (B := fun k_4 => ∀ (y_3 : Int32), V (P_X3_lives l d n0 s0) (vEmb eI) σ_1 112 [some (.ref a0), some (.int x1), some (.int v2_1), some (.int v3_1), some (.int v4), none] [.int y_3, .int y_2, .ref a0] (k_4 y_3)) ?_ ?_
          · intro y_3
            refine V_cko (fun hm => V_callV_PI (c := 3) (As := [.int y_2, .int y_3]) (rest := []) (d' := 0) hC dX3_lives_112 2 (lw_V q1836 q1838 qs74 q87 q1839) (by decide +kernel) (List.mem_singleton.mp hm) (by decide) (by decide) rfl rfl rfl (Nat.le_of_ble_eq_true rfl) (Nat.le_trans (by decide) hd) (by decide) vMP_l (fun _ h => c_X3_lastsFor (Nat.le_refl _) h) (fun r_1 => ?_))
            refine V_istore (ls' := [some (.ref a0), some (.int x1), some (.int v2_1), some (.int v3_1), some (.int v4), some (.int r_1)]) hC dX3_lives_115 (by decide) rfl rfl ?_
            refine V_iload hC dX3_lives_117 rfl ?_
            refine V_iload_n hC dX3_lives_119 rfl ?_
            refine V_let (B := fun k_5 => ∀ (y_4 : Int32), V (P_X3_lives l d n0 s0) (vEmb eI) σ_1 129 [some (.ref a0), some (.int x1), some (.int v2_1), none, some (.int v4), some (.int r_1)] [.int y_4] (k_5 y_4)) ?_ ?_
            · intro y_4
              refine V_istore_n (ls' := [some (.ref a0), some (.int x1), some (.int v2_1), some (.int y_4), some (.int v4), some (.int r_1)]) hC dX3_lives_129 (by decide) rfl rfl ?_
              refine V_iload_n hC dX3_lives_130 rfl ?_
              refine V_iload hC dX3_lives_131 rfl ?_
              refine V_mmin hC dX3_lives_133 q1459 q327 q90 q328 (Nat.le_of_ble_eq_true rfl) ?_
              refine V_istore_nL (ls' := fun v2_2 => [some (.ref a0), some (.int x1), some (.int v2_2), some (.int y_4), some (.int v4), some (.int r_1)]) hC dX3_lives_136 (by decide) rfl (fun _ => rfl) (fun v2_2 => ?_)
              refine V_iincL (v := v4 + 1) (ls' := fun v4_1 => [some (.ref a0), some (.int x1), some (.int v2_2), some (.int y_4), some (.int v4_1), some (.int r_1)]) hC dX3_lives_137 rfl (by decide) rfl rfl (fun _ => rfl) (fun v4_1 => ?_)
              refine V_goto (tgt := 70) hC dX3_lives_140 (by decide) ?_
              refine V_clr [5] (ls' := [some (.ref a0), some (.int x1), some (.int v2_2), some (.int y_4), some (.int v4_1), none]) rfl ?_
              exact ih v2_2 y_4 v4_1
            · intro k_5 hk_5
              refine V_icmp_ge (tgt := 128) hC dX3_lives_120 (by decide) ?_ ?_
              · refine V_iload_n hC dX3_lives_128 rfl ?_
                refine V_clr [3] (ls' := [some (.ref a0), some (.int x1), some (.int v2_1), none, some (.int v4), some (.int r_1)]) rfl ?_
                exact hk_5 v3_1
              · refine V_iload hC dX3_lives_123 rfl ?_
                refine V_goto (tgt := 129) hC dX3_lives_125 (by decide) ?_
                refine V_clr [3] (ls' := [some (.ref a0), some (.int x1), some (.int v2_1), none, some (.int v4), some (.int r_1)]) rfl ?_
                exact hk_5 v4
          · intro k_4 hk_4
            refine V_icmp_ne (tgt := 110) hC dX3_lives_98 (by decide) ?_ ?_
            · refine V_iload hC dX3_lives_110 rfl ?_
              exact hk_4 v4
            · refine V_aload_n hC dX3_lives_101 rfl ?_
              refine g_X3_117 hC dX3_lives_102 ?_
              refine V_iconst (v := 1) hC dX3_lives_105 rfl ?_
              refine V_isub hC dX3_lives_106 ?_
              refine V_goto (tgt := 112) hC dX3_lives_107 (by decide) ?_
              exact hk_4 ((gi σ_1 a0 7) - 1)
        · intro k_3 hk_3
          refine V_icmp_ne (tgt := 94) hC dX3_lives_87 (by decide) ?_ ?_
          · refine V_iload hC dX3_lives_94 rfl ?_
            exact hk_3 v4
          · refine V_iconst (v := 0) hC dX3_lives_90 rfl ?_
            refine V_goto (tgt := 96) hC dX3_lives_91 (by decide) ?_
            exact hk_3 0
theorem w_X3_lives {l : Launch} {d n0 s0 : Nat} (hd : 1 ≤ d) (σ : vMem) (a0 : Nat) (x1 : Int32) : V (P_X3_lives l d n0 s0) (vEmb eI) σ 0 [some (.ref a0), some (.int x1), none, none, none, none] [] (f_X3_lives σ a0 x1) := by
  have hC : vPx (P_X3_lives l d n0 s0) cX3_lives 6 "NobodyBeenAftModel" (some .int) d := vMP_cx
  refine V_eq (f_X3_lives.eq_1 ..) ?_
  refine V_aload_n hC dX3_lives_0 rfl ?_
  refine V_iconst (v := 0) hC dX3_lives_1 rfl ?_
  refine p_X3_103 hC dX3_lives_2 (fun σ_1 => ?_)
  refine V_iload_n hC dX3_lives_5 rfl ?_
  refine V_i2l hC dX3_lives_6 ?_
  refine V_lconst (v := 0) hC dX3_lives_7 rfl ?_
  refine V_ldc2 hC dX3_lives_8 q1611 ?_
  refine V_callS_PI (As := [.long (Int32.toInt64 x1), .long 0, .long 3]) (rest := []) (d' := 0) hC dX3_lives_11 3 (lw_S q1448 q1449 q87 q1450) (by decide +kernel) rfl rfl (Nat.le_of_ble_eq_true rfl) (Nat.le_trans (by decide) hd) (by decide) vMP_l (fun _ h => c_X3_in (Nat.le_refl _) h) (fun r => ?_)
  refine V_if_eq (tgt := 24) hC dX3_lives_14 (by decide) ?_ ?_
  · refine V_iconst (v := (-1)) hC dX3_lives_24 rfl ?_
    exact V_ireturn dX3_lives_25 rfl rfl
  · refine V_aload_n hC dX3_lives_17 rfl ?_
    refine g_X3_117 hC dX3_lives_18 ?_
    refine V_if_ne (tgt := 26) hC dX3_lives_21 (by decide) ?_ ?_
    · refine V_iload_n hC dX3_lives_26 rfl ?_
      refine V_iconst (v := 3) hC dX3_lives_27 rfl ?_
      refine V_let (B := fun k => ∀ (y : Int32), V (P_X3_lives l d n0 s0) (vEmb eI) σ_1 48 [some (.ref a0), some (.int x1), none, none, none, none] [.int y] (k y)) ?_ ?_
      · intro y
        refine V_istore_n (ls' := [some (.ref a0), some (.int x1), some (.int y), none, none, none]) hC dX3_lives_48 (by decide) rfl rfl ?_
        refine V_iload_n hC dX3_lives_49 rfl ?_
        refine V_iconst (v := 3) hC dX3_lives_50 rfl ?_
        refine V_let (B := fun k_1 => ∀ (y_1 : Int32), V (P_X3_lives l d n0 s0) (vEmb eI) σ_1 66 [some (.ref a0), some (.int x1), some (.int y), none, none, none] [.int y_1] (k_1 y_1)) ?_ ?_
        · intro y_1
          refine V_istore_n (ls' := [some (.ref a0), some (.int x1), some (.int y), some (.int y_1), none, none]) hC dX3_lives_66 (by decide) rfl rfl ?_
          refine V_iconst (v := 0) hC dX3_lives_67 rfl ?_
          refine V_istore (ls' := [some (.ref a0), some (.int x1), some (.int y), some (.int y_1), some (.int 0), none]) hC dX3_lives_68 (by decide) rfl rfl ?_
          refine V_let (B := fun k_2 => ∀ (v2 : Int32), ∀ (v3 : Int32), V (P_X3_lives l d n0 s0) (vEmb eI) σ_1 143 [some (.ref a0), none, some (.int v2), some (.int v3), none, none] [] (k_2 v2 v3)) ?_ ?_
          · intro v2 v3
            refine V_aload_n hC dX3_lives_143 rfl ?_
            refine V_iconst (v := 0) hC dX3_lives_144 rfl ?_
            refine p_X3_110 hC dX3_lives_145 (fun σ_2 => ?_)
            refine V_aload_n hC dX3_lives_148 rfl ?_
            refine V_iload_n hC dX3_lives_149 rfl ?_
            refine V_i2l hC dX3_lives_150 ?_
            refine V_cko (fun hm => V_callV_V (c := 3) (As := [.long (Int32.toInt64 v3)]) (rest := []) (d' := 0) hC dX3_lives_151 1 (lw_V q1697 q1699 qs59 q87 q1700) (by decide +kernel) (List.mem_singleton.mp hm) (by decide) (by decide) rfl rfl rfl (Nat.le_of_ble_eq_true rfl) (Nat.le_trans (by decide) hd) (by decide) vMP_l (fun _ h => c_X3_enters (Nat.le_refl _) h) (fun σ_3 => ?_))
            refine V_iload_n hC dX3_lives_154 rfl ?_
            exact V_ireturn dX3_lives_155 rfl rfl
          · intro k_2 hk_2
            exact (w_X3_lives_70 hd a0 x1 σ_1 k_2 hk_2) FU y y_1 0
        · intro k_1 hk_1
          refine V_let (B := fun k_6 => V (P_X3_lives l d n0 s0) (vEmb eI) σ_1 65 [some (.ref a0), some (.int x1), some (.int y), none, none, none] [] (k_6)) ?_ ?_
          · skip
            refine V_iconst (v := (-1)) hC dX3_lives_65 rfl ?_
            exact hk_1 (-1)
          · intro k_6 hk_6
            refine V_icmp_ne (tgt := 65) hC dX3_lives_51 (by decide) ?_ ?_
            · exact hk_6
            · refine V_iload_n hC dX3_lives_54 rfl ?_
              refine V_ldcw hC dX3_lives_55 q1840 ?_
              refine V_icmp_ge (tgt := 65) hC dX3_lives_58 (by decide) ?_ ?_
              · exact hk_6
              · refine V_iconst (v := 0) hC dX3_lives_61 rfl ?_
                refine V_goto (tgt := 66) hC dX3_lives_62 (by decide) ?_
                exact hk_1 0
      · intro k hk
        refine V_icmp_ne (tgt := 45) hC dX3_lives_28 (by decide) ?_ ?_
        · refine V_ldcw hC dX3_lives_45 q1840 ?_
          exact hk 99999
        · refine V_aload_n hC dX3_lives_31 rfl ?_
          refine V_iconst (v := 0) hC dX3_lives_32 rfl ?_
          refine V_aload_n hC dX3_lives_33 rfl ?_
          refine g_X3_117 hC dX3_lives_34 ?_
          refine V_iconst (v := 1) hC dX3_lives_37 rfl ?_
          refine V_isub hC dX3_lives_38 ?_
          refine V_cko (fun hm => V_callV_PI (c := 3) (As := [.int 0, .int ((gi σ_1 a0 7) - 1)]) (rest := []) (d' := 0) hC dX3_lives_39 2 (lw_V q1836 q1838 qs74 q87 q1839) (by decide +kernel) (List.mem_singleton.mp hm) (by decide) (by decide) rfl rfl rfl (Nat.le_of_ble_eq_true rfl) (Nat.le_trans (by decide) hd) (by decide) vMP_l (fun _ h => c_X3_lastsFor (Nat.le_refl _) h) (fun r_2 => ?_))
          refine V_goto (tgt := 48) hC dX3_lives_42 (by decide) ?_
          exact hk r_2
    · refine V_iconst (v := (-1)) hC dX3_lives_24 rfl ?_
      exact V_ireturn dX3_lives_25 rfl rfl
theorem c_X3_lives {l : Launch} {d : Nat} (hd : 1 ≤ d) {σ : vMem} {a0 : Nat} {x1 : Int32} {r : Int32 × vMem} (h : f_X3_lives σ a0 x1 = some r) : vOk l yX3_lives cX3_lives 6 (some .int) d [.ref a0, .int x1] σ (.inl ((eI).1 r, (eI).2 r)) := V_method (em := eI) [some (.ref a0), some (.int x1), none, none, none, none] (by decide +kernel) rfl (Nat.le_of_ble_eq_true rfl) (w_X3_lives hd σ a0 x1) h
/-! NobodyBeenAftModel.spare(II)I -/
def f_X3_spare (σ : vMem) (a0 : Nat) (x1 : Int32) (x2 : Int32) : Option (Int32) := cko σ a0 [3] (dr (gr σ a0 14) (fun b => cka σ b 105 (41 + x1) (cko σ a0 [3] (dr (gr σ a0 13) (fun b_1 => cka σ b_1 105 x1 (some ((gi σ b (Int32.toNatClampNeg (41 + x1))) - (x2 * (gi σ b_1 (Int32.toNatClampNeg x1))))))))))
abbrev P_X3_spare (l : Launch) (d n0 s0 : Nat) : vX → Prop := vMP l yX3_spare cX3_spare 3 (some .int) d n0 s0
theorem w_X3_spare {l : Launch} {d n0 s0 : Nat} (hd : 0 ≤ d) (σ : vMem) (a0 : Nat) (x1 : Int32) (x2 : Int32) : V (P_X3_spare l d n0 s0) (vEmb (ePI σ)) σ 0 [some (.ref a0), some (.int x1), some (.int x2)] [] (f_X3_spare σ a0 x1 x2) := by
  have hC : vPx (P_X3_spare l d n0 s0) cX3_spare 3 "NobodyBeenAftModel" (some .int) d := vMP_cx
  refine V_eq (f_X3_spare.eq_1 ..) ?_
  refine V_aload_n hC dX3_spare_0 rfl ?_
  refine g_X3_34 hC dX3_spare_1 (fun b => ?_)
  refine V_bipush (v := 41) hC dX3_spare_4 rfl ?_
  refine V_iload_n hC dX3_spare_6 rfl ?_
  refine V_iadd hC dX3_spare_7 ?_
  refine V_iald hC dX3_spare_8 ?_
  refine V_iload_n hC dX3_spare_9 rfl ?_
  refine V_aload_n hC dX3_spare_10 rfl ?_
  refine g_X3_31 hC dX3_spare_11 (fun b_1 => ?_)
  refine V_iload_n hC dX3_spare_14 rfl ?_
  refine V_iald hC dX3_spare_15 ?_
  refine V_imul hC dX3_spare_16 ?_
  refine V_isub hC dX3_spare_17 ?_
  exact V_ireturn dX3_spare_18 rfl rfl
theorem c_X3_spare {l : Launch} {d : Nat} (hd : 0 ≤ d) {σ : vMem} {a0 : Nat} {x1 : Int32} {x2 : Int32} {r : Int32} (h : f_X3_spare σ a0 x1 x2 = some r) : vOk l yX3_spare cX3_spare 3 (some .int) d [.ref a0, .int x1, .int x2] σ (.inl (((ePI σ)).1 r, ((ePI σ)).2 r)) := V_method (em := (ePI σ)) [some (.ref a0), some (.int x1), some (.int x2)] (by decide +kernel) rfl (Nat.le_of_ble_eq_true rfl) (w_X3_spare hd σ a0 x1 x2) h
/-! NobodyBeenAftModel.flow(II)I -/
def f_X3_flow (σ : vMem) (a0 : Nat) (x1 : Int32) (x2 : Int32) : Option (Int32) := cko σ a0 [3] (dr (gr σ a0 41) (fun b => cka σ b 105 (((1601 * (x1 + 1)) + 800) + x2) (some ((iabs x2) + (gi σ b (Int32.toNatClampNeg (((1601 * (x1 + 1)) + 800) + x2)))))))
abbrev P_X3_flow (l : Launch) (d n0 s0 : Nat) : vX → Prop := vMP l yX3_flow cX3_flow 3 (some .int) d n0 s0
theorem w_X3_flow {l : Launch} {d n0 s0 : Nat} (hd : 0 ≤ d) (σ : vMem) (a0 : Nat) (x1 : Int32) (x2 : Int32) : V (P_X3_flow l d n0 s0) (vEmb (ePI σ)) σ 0 [some (.ref a0), some (.int x1), some (.int x2)] [] (f_X3_flow σ a0 x1 x2) := by
  have hC : vPx (P_X3_flow l d n0 s0) cX3_flow 3 "NobodyBeenAftModel" (some .int) d := vMP_cx
  refine V_eq (f_X3_flow.eq_1 ..) ?_
  refine V_iload_n hC dX3_flow_0 rfl ?_
  refine V_mabs hC dX3_flow_1 q1787 q1085 q90 q1086 (Nat.le_of_ble_eq_true rfl) ?_
  refine V_aload_n hC dX3_flow_4 rfl ?_
  refine g_X3_76 hC dX3_flow_5 (fun b => ?_)
  refine V_sipush (v := 1601) hC dX3_flow_8 rfl ?_
  refine V_iload_n hC dX3_flow_11 rfl ?_
  refine V_iconst (v := 1) hC dX3_flow_12 rfl ?_
  refine V_iadd hC dX3_flow_13 ?_
  refine V_imul hC dX3_flow_14 ?_
  refine V_sipush (v := 800) hC dX3_flow_15 rfl ?_
  refine V_iadd hC dX3_flow_18 ?_
  refine V_iload_n hC dX3_flow_19 rfl ?_
  refine V_iadd hC dX3_flow_20 ?_
  refine V_iald hC dX3_flow_21 ?_
  refine V_iadd hC dX3_flow_22 ?_
  exact V_ireturn dX3_flow_23 rfl rfl
theorem c_X3_flow {l : Launch} {d : Nat} (hd : 0 ≤ d) {σ : vMem} {a0 : Nat} {x1 : Int32} {x2 : Int32} {r : Int32} (h : f_X3_flow σ a0 x1 x2 = some r) : vOk l yX3_flow cX3_flow 3 (some .int) d [.ref a0, .int x1, .int x2] σ (.inl (((ePI σ)).1 r, ((ePI σ)).2 r)) := V_method (em := (ePI σ)) [some (.ref a0), some (.int x1), some (.int x2)] (by decide +kernel) rfl (Nat.le_of_ble_eq_true rfl) (w_X3_flow hd σ a0 x1 x2) h
/-! NobodyBeenAftModel.laysFlows(I)V -/
def f_X3_laysFlows_94 (a0 : Nat) (x1 : Int32) (v2_1 : Int32) (σ_4 : vMem) (v5 : Int32) (k_2 : Int32 → Int32 → Option (vMem)) : Nat → Int32 → Int32 → Option (vMem)
  | 0, _, _ => none
  | n_2 + 1, v3_2, v4_2 => if 800 < v4_2 then (k_2 v3_2 v4_2) else cko σ_4 a0 [3] (bp (f_X3_spare σ_4 a0 v2_1 x1) (fun r => if (v5 + r) < v4_2 then (k_2 v3_2 v4_2) else cko σ_4 a0 [3] (bp (f_X3_flow σ_4 a0 v2_1 v4_2) (fun r_1 => vl (imin v3_2 r_1) (fun v3_3 => vl (v4_2 + 1) (fun v4_3 => f_X3_laysFlows_94 a0 x1 v2_1 σ_4 v5 k_2 n_2 v3_3 v4_3))))))
def f_X3_laysFlows_86 (a0 : Nat) (x1 : Int32) (v2_1 : Int32) (k_1 : vMem → Option (vMem)) : Nat → vMem → Int32 → Int32 → Int32 → Option (vMem)
  | 0, _, _, _, _ => none
  | n_1 + 1, σ_4, v3, v4, v5 => vl (fun (v3_1 : Int32) (v4_1 : Int32) => cko σ_4 a0 [3] (dr (gr σ_4 a0 41) (fun b => cka σ_4 b 105 (((1601 * v2_1) + 800) + v5) (vl (si σ_4 b (Int32.toNatClampNeg (((1601 * v2_1) + 800) + v5)) v3_1) (fun σ_5 => vl (v5 + 1) (fun v5_1 => f_X3_laysFlows_86 a0 x1 v2_1 k_1 n_1 σ_5 v3_1 v4_1 v5_1)))))) (fun k_2 => if 800 < v5 then (k_1 σ_4) else f_X3_laysFlows_94 a0 x1 v2_1 σ_4 v5 k_2 FU v3 v4)
def f_X3_laysFlows_68 (a0 : Nat) (x1 : Int32) : Nat → vMem → Int32 → Option (vMem)
  | 0, _, _ => none
  | n + 1, σ_2, v2_1 => if v2_1 < 0 then (some σ_2) else vl (fun (σ_3 : vMem) => vl (v2_1 + (-1)) (fun v2_2 => f_X3_laysFlows_68 a0 x1 n σ_3 v2_2)) (fun k_1 => f_X3_laysFlows_86 a0 x1 v2_1 k_1 FU σ_2 1000000 (-800) (-800))
def f_X3_laysFlows_4 (a0 : Nat) (x1 : Int32) (k : vMem → Option (vMem)) : Nat → vMem → Int32 → Option (vMem)
  | 0, _, _ => none
  | n_3 + 1, σ_6, v2_3 => if 800 < v2_3 then (k σ_6) else cko σ_6 a0 [3] (dr (gr σ_6 a0 41) (fun b_1 => cko σ_6 a0 [3] (cko σ_6 a0 [3] (cko σ_6 a0 [3] (bp (f_X3_spare σ_6 a0 ((gi σ_6 a0 7) - 1) x1) (fun r_2 => vl (fun (y : Int32) => cka σ_6 b_1 105 (((1601 * ((gi σ_6 a0 7) - 1)) + 800) + v2_3) (vl (si σ_6 b_1 (Int32.toNatClampNeg (((1601 * ((gi σ_6 a0 7) - 1)) + 800) + v2_3)) y) (fun σ_7 => vl (v2_3 + 1) (fun v2_4 => f_X3_laysFlows_4 a0 x1 k n_3 σ_7 v2_4)))) (fun k_3 => if (v2_3 + r_2) < 0 then (k_3 1000000) else k_3 0)))))))
def f_X3_laysFlows (σ : vMem) (a0 : Nat) (x1 : Int32) : Option (vMem) := vl (fun (σ_1 : vMem) => cko σ_1 a0 [3] (vl ((gi σ_1 a0 7) - 2) (fun v2 => f_X3_laysFlows_68 a0 x1 FU σ_1 v2))) (fun k => f_X3_laysFlows_4 a0 x1 k FU σ (-800))
abbrev P_X3_laysFlows (l : Launch) (d n0 s0 : Nat) : vX → Prop := vMP l yX3_laysFlows cX3_laysFlows 6 none d n0 s0
theorem w_X3_laysFlows_94 {l : Launch} {d n0 s0 : Nat} (hd : 1 ≤ d) (a0 : Nat) (x1 : Int32) (v2_1 : Int32) (σ_4 : vMem) (v5 : Int32) (k_2 : Int32 → Int32 → Option (vMem)) (hk_2 : ∀ (v3_1 : Int32), ∀ (v4_1 : Int32), V (P_X3_laysFlows l d n0 s0) (vEmb eV) σ_4 134 [some (.ref a0), some (.int x1), some (.int v2_1), some (.int v3_1), some (.int v4_1), some (.int v5)] [] (k_2 v3_1 v4_1)) : ∀ (n_2 : Nat) (v3_2 : Int32) (v4_2 : Int32), V (P_X3_laysFlows l d n0 s0) (vEmb eV) σ_4 94 [some (.ref a0), some (.int x1), some (.int v2_1), some (.int v3_2), some (.int v4_2), some (.int v5)] [] (f_X3_laysFlows_94 a0 x1 v2_1 σ_4 v5 k_2 n_2 v3_2 v4_2) := by
  have hC : vPx (P_X3_laysFlows l d n0 s0) cX3_laysFlows 6 "NobodyBeenAftModel" none d := vMP_cx
  intro n_2
  induction n_2 with
  | zero =>
    intro v3_2 v4_2
    exact V_none
  | succ n_2 ih =>
    intro v3_2 v4_2
    refine V_eq (f_X3_laysFlows_94.eq_2 ..) ?_
    refine V_iload hC dX3_laysFlows_94 rfl ?_
    refine V_sipush (v := 800) hC dX3_laysFlows_96 rfl ?_
    refine V_icmp_gt (tgt := 134) hC dX3_laysFlows_99 (by decide) ?_ ?_
    · exact hk_2 v3_2 v4_2
    · refine V_iload hC dX3_laysFlows_102 rfl ?_
      refine V_iload hC dX3_laysFlows_104 rfl ?_
      refine V_aload_n hC dX3_laysFlows_106 rfl ?_
      refine V_iload_n hC dX3_laysFlows_107 rfl ?_
      refine V_iload_n hC dX3_laysFlows_108 rfl ?_
      refine V_cko (fun hm => V_callV_PI (c := 3) (As := [.int v2_1, .int x1]) (rest := [.int v5, .int v4_2]) (d' := 0) hC dX3_laysFlows_109 2 (lw_V q1845 q1847 qs75 q87 q1848) (by decide +kernel) (List.mem_singleton.mp hm) (by decide) (by decide) rfl rfl rfl (Nat.le_of_ble_eq_true rfl) (Nat.le_trans (by decide) hd) (by decide) vMP_l (fun _ h => c_X3_spare (Nat.le_refl _) h) (fun r => ?_))
      refine V_iadd hC dX3_laysFlows_112 ?_
      refine V_icmp_gt (tgt := 134) hC dX3_laysFlows_113 (by decide) ?_ ?_
      · exact hk_2 v3_2 v4_2
      · refine V_iload_n hC dX3_laysFlows_116 rfl ?_
        refine V_aload_n hC dX3_laysFlows_117 rfl ?_
        refine V_iload_n hC dX3_laysFlows_118 rfl ?_
        refine V_iload hC dX3_laysFlows_119 rfl ?_
        refine V_cko (fun hm => V_callV_PI (c := 3) (As := [.int v2_1, .int v4_2]) (rest := [.int v3_2]) (d' := 0) hC dX3_laysFlows_121 2 (lw_V q1854 q1856 qs77 q87 q1857) (by decide +kernel) (List.mem_singleton.mp hm) (by decide) (by decide) rfl rfl rfl (Nat.le_of_ble_eq_true rfl) (Nat.le_trans (by decide) hd) (by decide) vMP_l (fun _ h => c_X3_flow (Nat.le_refl _) h) (fun r_1 => ?_))
        refine V_mmin hC dX3_laysFlows_124 q1459 q327 q90 q328 (Nat.le_of_ble_eq_true rfl) ?_
        refine V_istore_nL (ls' := fun v3_3 => [some (.ref a0), some (.int x1), some (.int v2_1), some (.int v3_3), some (.int v4_2), some (.int v5)]) hC dX3_laysFlows_127 (by decide) rfl (fun _ => rfl) (fun v3_3 => ?_)
        refine V_iincL (v := v4_2 + 1) (ls' := fun v4_3 => [some (.ref a0), some (.int x1), some (.int v2_1), some (.int v3_3), some (.int v4_3), some (.int v5)]) hC dX3_laysFlows_128 rfl (by decide) rfl rfl (fun _ => rfl) (fun v4_3 => ?_)
        refine V_goto (tgt := 94) hC dX3_laysFlows_131 (by decide) ?_
        exact ih v3_3 v4_3
theorem w_X3_laysFlows_86 {l : Launch} {d n0 s0 : Nat} (hd : 1 ≤ d) (a0 : Nat) (x1 : Int32) (v2_1 : Int32) (k_1 : vMem → Option (vMem)) (hk_1 : ∀ (σ_3 : vMem), V (P_X3_laysFlows l d n0 s0) (vEmb eV) σ_3 158 [some (.ref a0), some (.int x1), some (.int v2_1), none, none, none] [] (k_1 σ_3)) : ∀ (n_1 : Nat) (σ_4 : vMem) (v3 : Int32) (v4 : Int32) (v5 : Int32), V (P_X3_laysFlows l d n0 s0) (vEmb eV) σ_4 86 [some (.ref a0), some (.int x1), some (.int v2_1), some (.int v3), some (.int v4), some (.int v5)] [] (f_X3_laysFlows_86 a0 x1 v2_1 k_1 n_1 σ_4 v3 v4 v5) := by
  have hC : vPx (P_X3_laysFlows l d n0 s0) cX3_laysFlows 6 "NobodyBeenAftModel" none d := vMP_cx
  intro n_1
  induction n_1 with
  | zero =>
    intro σ_4 v3 v4 v5
    exact V_none
  | succ n_1 ih =>
    intro σ_4 v3 v4 v5
    refine V_eq (f_X3_laysFlows_86.eq_2 ..) ?_
    refine V_iload hC dX3_laysFlows_86 rfl ?_
    refine V_sipush (v := 800) hC dX3_laysFlows_88 rfl ?_
    refine V_let (B := fun k_2 => ∀ (v3_1 : Int32), ∀ (v4_1 : Int32), V (P_X3_laysFlows l d n0 s0) (vEmb eV) σ_4 134 [some (.ref a0), some (.int x1), some (.int v2_1), some (.int v3_1), some (.int v4_1), some (.int v5)] [] (k_2 v3_1 v4_1)) ?_ ?_
    · intro v3_1 v4_1
      refine V_aload_n hC dX3_laysFlows_134 rfl ?_
      refine g_X3_76 hC dX3_laysFlows_135 (fun b => ?_)
      refine V_sipush (v := 1601) hC dX3_laysFlows_138 rfl ?_
      refine V_iload_n hC dX3_laysFlows_141 rfl ?_
      refine V_imul hC dX3_laysFlows_142 ?_
      refine V_sipush (v := 800) hC dX3_laysFlows_143 rfl ?_
      refine V_iadd hC dX3_laysFlows_146 ?_
      refine V_iload hC dX3_laysFlows_147 rfl ?_
      refine V_iadd hC dX3_laysFlows_149 ?_
      refine V_iload_n hC dX3_laysFlows_150 rfl ?_
      refine V_iast hC dX3_laysFlows_151 (fun σ_5 => ?_)
      refine V_iincL (v := v5 + 1) (ls' := fun v5_1 => [some (.ref a0), some (.int x1), some (.int v2_1), some (.int v3_1), some (.int v4_1), some (.int v5_1)]) hC dX3_laysFlows_152 rfl (by decide) rfl rfl (fun _ => rfl) (fun v5_1 => ?_)
      refine V_goto (tgt := 86) hC dX3_laysFlows_155 (by decide) ?_
      exact ih σ_5 v3_1 v4_1 v5_1
    · intro k_2 hk_2
      refine V_icmp_gt (tgt := 158) hC dX3_laysFlows_91 (by decide) ?_ ?_
      · refine V_clr [3, 4, 5] (ls' := [some (.ref a0), some (.int x1), some (.int v2_1), none, none, none]) rfl ?_
        exact hk_1 σ_4
      · exact (w_X3_laysFlows_94 hd a0 x1 v2_1 σ_4 v5 k_2 hk_2) FU v3 v4
theorem w_X3_laysFlows_68 {l : Launch} {d n0 s0 : Nat} (hd : 1 ≤ d) (a0 : Nat) (x1 : Int32)  : ∀ (n : Nat) (σ_2 : vMem) (v2_1 : Int32), V (P_X3_laysFlows l d n0 s0) (vEmb eV) σ_2 68 [some (.ref a0), some (.int x1), some (.int v2_1), none, none, none] [] (f_X3_laysFlows_68 a0 x1 n σ_2 v2_1) := by
  have hC : vPx (P_X3_laysFlows l d n0 s0) cX3_laysFlows 6 "NobodyBeenAftModel" none d := vMP_cx
  intro n
  induction n with
  | zero =>
    intro σ_2 v2_1
    exact V_none
  | succ n ih =>
    intro σ_2 v2_1
    refine V_eq (f_X3_laysFlows_68.eq_2 ..) ?_
    refine V_iload_n hC dX3_laysFlows_68 rfl ?_
    refine V_if_lt (tgt := 164) hC dX3_laysFlows_69 (by decide) ?_ ?_
    · exact V_return dX3_laysFlows_164 rfl rfl
    · refine V_ldcw hC dX3_laysFlows_72 q1853 ?_
      refine V_istore_n (ls' := [some (.ref a0), some (.int x1), some (.int v2_1), some (.int 1000000), none, none]) hC dX3_laysFlows_75 (by decide) rfl rfl ?_
      refine V_sipush (v := (-800)) hC dX3_laysFlows_76 rfl ?_
      refine V_istore (ls' := [some (.ref a0), some (.int x1), some (.int v2_1), some (.int 1000000), some (.int (-800)), none]) hC dX3_laysFlows_79 (by decide) rfl rfl ?_
      refine V_sipush (v := (-800)) hC dX3_laysFlows_81 rfl ?_
      refine V_istore (ls' := [some (.ref a0), some (.int x1), some (.int v2_1), some (.int 1000000), some (.int (-800)), some (.int (-800))]) hC dX3_laysFlows_84 (by decide) rfl rfl ?_
      refine V_let (B := fun k_1 => ∀ (σ_3 : vMem), V (P_X3_laysFlows l d n0 s0) (vEmb eV) σ_3 158 [some (.ref a0), some (.int x1), some (.int v2_1), none, none, none] [] (k_1 σ_3)) ?_ ?_
      · intro σ_3
        refine V_iincL (v := v2_1 + (-1)) (ls' := fun v2_2 => [some (.ref a0), some (.int x1), some (.int v2_2), none, none, none]) hC dX3_laysFlows_158 rfl (by decide) rfl rfl (fun _ => rfl) (fun v2_2 => ?_)
        refine V_goto (tgt := 68) hC dX3_laysFlows_161 (by decide) ?_
        exact ih σ_3 v2_2
      · intro k_1 hk_1
        exact (w_X3_laysFlows_86 hd a0 x1 v2_1 k_1 hk_1) FU σ_2 1000000 (-800) (-800)
theorem w_X3_laysFlows_4 {l : Launch} {d n0 s0 : Nat} (hd : 1 ≤ d) (a0 : Nat) (x1 : Int32) (k : vMem → Option (vMem)) (hk : ∀ (σ_1 : vMem), V (P_X3_laysFlows l d n0 s0) (vEmb eV) σ_1 61 [some (.ref a0), some (.int x1), none, none, none, none] [] (k σ_1)) : ∀ (n_3 : Nat) (σ_6 : vMem) (v2_3 : Int32), V (P_X3_laysFlows l d n0 s0) (vEmb eV) σ_6 4 [some (.ref a0), some (.int x1), some (.int v2_3), none, none, none] [] (f_X3_laysFlows_4 a0 x1 k n_3 σ_6 v2_3) := by
  have hC : vPx (P_X3_laysFlows l d n0 s0) cX3_laysFlows 6 "NobodyBeenAftModel" none d := vMP_cx
  intro n_3
  induction n_3 with
  | zero =>
    intro σ_6 v2_3
    exact V_none
  | succ n_3 ih =>
    intro σ_6 v2_3
    refine V_eq (f_X3_laysFlows_4.eq_2 ..) ?_
    refine V_iload_n hC dX3_laysFlows_4 rfl ?_
    refine V_sipush (v := 800) hC dX3_laysFlows_5 rfl ?_
    refine V_icmp_gt (tgt := 61) hC dX3_laysFlows_8 (by decide) ?_ ?_
    · refine V_clr [2] (ls' := [some (.ref a0), some (.int x1), none, none, none, none]) rfl ?_
      exact hk σ_6
    · refine V_aload_n hC dX3_laysFlows_11 rfl ?_
      refine g_X3_76 hC dX3_laysFlows_12 (fun b_1 => ?_)
      refine V_sipush (v := 1601) hC dX3_laysFlows_15 rfl ?_
      refine V_aload_n hC dX3_laysFlows_18 rfl ?_
      refine g_X3_117 hC dX3_laysFlows_19 ?_
      refine V_iconst (v := 1) hC dX3_laysFlows_22 rfl ?_
      refine V_isub hC dX3_laysFlows_23 ?_
      refine V_imul hC dX3_laysFlows_24 ?_
      refine V_sipush (v := 800) hC dX3_laysFlows_25 rfl ?_
      refine V_iadd hC dX3_laysFlows_28 ?_
      refine V_iload_n hC dX3_laysFlows_29 rfl ?_
      refine V_iadd hC dX3_laysFlows_30 ?_
      refine V_iload_n hC dX3_laysFlows_31 rfl ?_
      refine V_aload_n hC dX3_laysFlows_32 rfl ?_
      refine V_aload_n hC dX3_laysFlows_33 rfl ?_
      refine g_X3_117 hC dX3_laysFlows_34 ?_
      refine V_iconst (v := 1) hC dX3_laysFlows_37 rfl ?_
      refine V_isub hC dX3_laysFlows_38 ?_
      refine V_iload_n hC dX3_laysFlows_39 rfl ?_
      refine V_cko (fun hm => V_callV_PI (c := 3) (As := [.int ((gi σ_6 a0 7) - 1), .int x1]) (rest := [.int v2_3, .int (((1601 * ((gi σ_6 a0 7) - 1)) + 800) + v2_3), .ref b_1]) (d' := 0) hC dX3_laysFlows_40 2 (lw_V q1845 q1847 qs75 q87 q1848) (by decide +kernel) (List.mem_singleton.mp hm) (by decide) (by decide) rfl rfl rfl (Nat.le_of_ble_eq_true rfl) (Nat.le_trans (by decide) hd) (by decide) vMP_l (fun _ h => c_X3_spare (Nat.le_refl _) h) (fun r_2 => ?_))
      refine V_iadd hC dX3_laysFlows_43 ?_
      refine V_let (B := fun k_3 => ∀ (y : Int32), V (P_X3_laysFlows l d n0 s0) (vEmb eV) σ_6 54 [some (.ref a0), some (.int x1), some (.int v2_3), none, none, none] [.int y, .int (((1601 * ((gi σ_6 a0 7) - 1)) + 800) + v2_3), .ref b_1] (k_3 y)) ?_ ?_
      · intro y
        refine V_iast hC dX3_laysFlows_54 (fun σ_7 => ?_)
        refine V_iincL (v := v2_3 + 1) (ls' := fun v2_4 => [some (.ref a0), some (.int x1), some (.int v2_4), none, none, none]) hC dX3_laysFlows_55 rfl (by decide) rfl rfl (fun _ => rfl) (fun v2_4 => ?_)
        refine V_goto (tgt := 4) hC dX3_laysFlows_58 (by decide) ?_
        exact ih σ_7 v2_4
      · intro k_3 hk_3
        refine V_if_lt (tgt := 51) hC dX3_laysFlows_44 (by decide) ?_ ?_
        · refine V_ldcw hC dX3_laysFlows_51 q1853 ?_
          exact hk_3 1000000
        · refine V_iconst (v := 0) hC dX3_laysFlows_47 rfl ?_
          refine V_goto (tgt := 54) hC dX3_laysFlows_48 (by decide) ?_
          exact hk_3 0
theorem w_X3_laysFlows {l : Launch} {d n0 s0 : Nat} (hd : 1 ≤ d) (σ : vMem) (a0 : Nat) (x1 : Int32) : V (P_X3_laysFlows l d n0 s0) (vEmb eV) σ 0 [some (.ref a0), some (.int x1), none, none, none, none] [] (f_X3_laysFlows σ a0 x1) := by
  have hC : vPx (P_X3_laysFlows l d n0 s0) cX3_laysFlows 6 "NobodyBeenAftModel" none d := vMP_cx
  refine V_eq (f_X3_laysFlows.eq_1 ..) ?_
  refine V_sipush (v := (-800)) hC dX3_laysFlows_0 rfl ?_
  refine V_istore_n (ls' := [some (.ref a0), some (.int x1), some (.int (-800)), none, none, none]) hC dX3_laysFlows_3 (by decide) rfl rfl ?_
  refine V_let (B := fun k => ∀ (σ_1 : vMem), V (P_X3_laysFlows l d n0 s0) (vEmb eV) σ_1 61 [some (.ref a0), some (.int x1), none, none, none, none] [] (k σ_1)) ?_ ?_
  · intro σ_1
    refine V_aload_n hC dX3_laysFlows_61 rfl ?_
    refine g_X3_117 hC dX3_laysFlows_62 ?_
    refine V_iconst (v := 2) hC dX3_laysFlows_65 rfl ?_
    refine V_isub hC dX3_laysFlows_66 ?_
    refine V_istore_nL (ls' := fun v2 => [some (.ref a0), some (.int x1), some (.int v2), none, none, none]) hC dX3_laysFlows_67 (by decide) rfl (fun _ => rfl) (fun v2 => ?_)
    exact (w_X3_laysFlows_68 hd a0 x1) FU σ_1 v2
  · intro k hk
    exact (w_X3_laysFlows_4 hd a0 x1 k hk) FU σ (-800)
theorem c_X3_laysFlows {l : Launch} {d : Nat} (hd : 1 ≤ d) {σ : vMem} {a0 : Nat} {x1 : Int32} {r : vMem} (h : f_X3_laysFlows σ a0 x1 = some r) : vOk l yX3_laysFlows cX3_laysFlows 6 none d [.ref a0, .int x1] σ (.inl ((eV).1 r, (eV).2 r)) := V_method (em := eV) [some (.ref a0), some (.int x1), none, none, none, none] (by decide +kernel) rfl (Nat.le_of_ble_eq_true rfl) (w_X3_laysFlows hd σ a0 x1) h
/-! NobodyBeenAftModel.shares(I)I -/
def f_X3_shares_91 (a0 : Nat) (σ_5 : vMem) (v3 : Int32) (v4 : Int32) (k_2 : Int32 → Option (Int32 × vMem)) : Nat → Int32 → Option (Int32 × vMem)
  | 0, _ => none
  | n_1 + 1, v5_1 => cko σ_5 a0 [3] (bp (f_X3_flow σ_5 a0 v4 v5_1) (fun r_1 => cko σ_5 a0 [3] (dr (gr σ_5 a0 41) (fun b_1 => cka σ_5 b_1 105 (((1601 * v4) + 800) + v3) (if r_1 = (gi σ_5 b_1 (Int32.toNatClampNeg (((1601 * v4) + 800) + v3))) then (k_2 v5_1) else vl (v5_1 + 1) (fun v5_2 => f_X3_shares_91 a0 σ_5 v3 v4 k_2 n_1 v5_2))))))
def f_X3_shares_75 (a0 : Nat) (k_1 : vMem → Option (Int32 × vMem)) : Nat → vMem → Int32 → Int32 → Option (Int32 × vMem)
  | 0, _, _, _ => none
  | n + 1, σ_5, v3, v4 => cko σ_5 a0 [3] (if ((gi σ_5 a0 7) - 1) ≤ v4 then (k_1 σ_5) else vl (fun (v5 : Int32) => cko σ_5 a0 [3] (bv (f_X3_enters σ_5 a0 (Int32.toInt64 v5)) (fun σ_6 => vl (v4 + 1) (fun v4_1 => f_X3_shares_75 a0 k_1 n σ_6 v5 v4_1)))) (fun k_2 => f_X3_shares_91 a0 σ_5 v3 v4 k_2 FU (-800)))
def f_X3_shares_30 (a0 : Nat) (x1 : Int32) (σ_1 : vMem) (k : Int32 → Option (Int32 × vMem)) : Nat → Int32 → Int32 → Option (Int32 × vMem)
  | 0, _, _ => none
  | n_2 + 1, v2_1, v3_1 => cko σ_1 a0 [3] (if (gi σ_1 a0 7) ≤ v3_1 then (k v2_1) else cko σ_1 a0 [3] (bp (f_X3_spare σ_1 a0 v3_1 x1) (fun r_2 => vl (v2_1 + r_2) (fun v2_2 => vl (v3_1 + 1) (fun v3_2 => f_X3_shares_30 a0 x1 σ_1 k n_2 v2_2 v3_2)))))
def f_X3_shares (σ : vMem) (a0 : Nat) (x1 : Int32) : Option (Int32 × vMem) := cko σ a0 [3] (vl (si σ a0 0 0) (fun σ_1 => bp (f_X3_in σ_1 (Int32.toInt64 x1) 0 99) (fun r => if r = 0 then (some ((-1), σ_1)) else cko σ_1 a0 [3] (if ¬ (gi σ_1 a0 7) = 0 then (vl (fun (v2 : Int32) => if 0 ≤ v2 then (cko σ_1 a0 [3] (bv (f_X3_laysFlows σ_1 a0 x1) (fun σ_2 => cko σ_2 a0 [3] (vl (si σ_2 a0 1 0) (fun σ_3 => vl (fun (σ_4 : vMem) => cko σ_4 a0 [3] (dr (gr σ_4 a0 41) (fun b => cka σ_4 b 105 800 (some ((gi σ_4 b (Int32.toNatClampNeg 800)), σ_4))))) (fun k_1 => f_X3_shares_75 a0 k_1 FU σ_3 0 0)))))) else some ((-2), σ_1)) (fun k => f_X3_shares_30 a0 x1 σ_1 k FU 0 0)) else some ((-1), σ_1)))))
abbrev P_X3_shares (l : Launch) (d n0 s0 : Nat) : vX → Prop := vMP l yX3_shares cX3_shares 6 (some .int) d n0 s0
theorem w_X3_shares_91 {l : Launch} {d n0 s0 : Nat} (hd : 2 ≤ d) (a0 : Nat) (σ_5 : vMem) (v3 : Int32) (v4 : Int32) (k_2 : Int32 → Option (Int32 × vMem)) (hk_2 : ∀ (v5 : Int32), V (P_X3_shares l d n0 s0) (vEmb eI) σ_5 125 [some (.ref a0), none, none, none, some (.int v4), some (.int v5)] [] (k_2 v5)) : ∀ (n_1 : Nat) (v5_1 : Int32), V (P_X3_shares l d n0 s0) (vEmb eI) σ_5 91 [some (.ref a0), none, none, some (.int v3), some (.int v4), some (.int v5_1)] [] (f_X3_shares_91 a0 σ_5 v3 v4 k_2 n_1 v5_1) := by
  have hC : vPx (P_X3_shares l d n0 s0) cX3_shares 6 "NobodyBeenAftModel" (some .int) d := vMP_cx
  intro n_1
  induction n_1 with
  | zero =>
    intro v5_1
    exact V_none
  | succ n_1 ih =>
    intro v5_1
    refine V_eq (f_X3_shares_91.eq_2 ..) ?_
    refine V_aload_n hC dX3_shares_91 rfl ?_
    refine V_iload hC dX3_shares_92 rfl ?_
    refine V_iload hC dX3_shares_94 rfl ?_
    refine V_cko (fun hm => V_callV_PI (c := 3) (As := [.int v4, .int v5_1]) (rest := []) (d' := 0) hC dX3_shares_96 2 (lw_V q1854 q1856 qs77 q87 q1857) (by decide +kernel) (List.mem_singleton.mp hm) (by decide) (by decide) rfl rfl rfl (Nat.le_of_ble_eq_true rfl) (Nat.le_trans (by decide) hd) (by decide) vMP_l (fun _ h => c_X3_flow (Nat.le_refl _) h) (fun r_1 => ?_))
    refine V_aload_n hC dX3_shares_99 rfl ?_
    refine g_X3_76 hC dX3_shares_100 (fun b_1 => ?_)
    refine V_sipush (v := 1601) hC dX3_shares_103 rfl ?_
    refine V_iload hC dX3_shares_106 rfl ?_
    refine V_imul hC dX3_shares_108 ?_
    refine V_sipush (v := 800) hC dX3_shares_109 rfl ?_
    refine V_iadd hC dX3_shares_112 ?_
    refine V_iload_n hC dX3_shares_113 rfl ?_
    refine V_iadd hC dX3_shares_114 ?_
    refine V_iald hC dX3_shares_115 ?_
    refine V_icmp_eq (tgt := 125) hC dX3_shares_116 (by decide) ?_ ?_
    · refine V_clr [3] (ls' := [some (.ref a0), none, none, none, some (.int v4), some (.int v5_1)]) rfl ?_
      exact hk_2 v5_1
    · refine V_iincL (v := v5_1 + 1) (ls' := fun v5_2 => [some (.ref a0), none, none, some (.int v3), some (.int v4), some (.int v5_2)]) hC dX3_shares_119 rfl (by decide) rfl rfl (fun _ => rfl) (fun v5_2 => ?_)
      refine V_goto (tgt := 91) hC dX3_shares_122 (by decide) ?_
      exact ih v5_2
theorem w_X3_shares_75 {l : Launch} {d n0 s0 : Nat} (hd : 2 ≤ d) (a0 : Nat) (k_1 : vMem → Option (Int32 × vMem)) (hk_1 : ∀ (σ_4 : vMem), V (P_X3_shares l d n0 s0) (vEmb eI) σ_4 141 [some (.ref a0), none, none, none, none, none] [] (k_1 σ_4)) : ∀ (n : Nat) (σ_5 : vMem) (v3 : Int32) (v4 : Int32), V (P_X3_shares l d n0 s0) (vEmb eI) σ_5 75 [some (.ref a0), none, none, some (.int v3), some (.int v4), none] [] (f_X3_shares_75 a0 k_1 n σ_5 v3 v4) := by
  have hC : vPx (P_X3_shares l d n0 s0) cX3_shares 6 "NobodyBeenAftModel" (some .int) d := vMP_cx
  intro n
  induction n with
  | zero =>
    intro σ_5 v3 v4
    exact V_none
  | succ n ih =>
    intro σ_5 v3 v4
    refine V_eq (f_X3_shares_75.eq_2 ..) ?_
    refine V_iload hC dX3_shares_75 rfl ?_
    refine V_aload_n hC dX3_shares_77 rfl ?_
    refine g_X3_117 hC dX3_shares_78 ?_
    refine V_iconst (v := 1) hC dX3_shares_81 rfl ?_
    refine V_isub hC dX3_shares_82 ?_
    refine V_icmp_ge (tgt := 141) hC dX3_shares_83 (by decide) ?_ ?_
    · refine V_clr [3, 4] (ls' := [some (.ref a0), none, none, none, none, none]) rfl ?_
      exact hk_1 σ_5
    · refine V_sipush (v := (-800)) hC dX3_shares_86 rfl ?_
      refine V_istore (ls' := [some (.ref a0), none, none, some (.int v3), some (.int v4), some (.int (-800))]) hC dX3_shares_89 (by decide) rfl rfl ?_
      refine V_let (B := fun k_2 => ∀ (v5 : Int32), V (P_X3_shares l d n0 s0) (vEmb eI) σ_5 125 [some (.ref a0), none, none, none, some (.int v4), some (.int v5)] [] (k_2 v5)) ?_ ?_
      · intro v5
        refine V_aload_n hC dX3_shares_125 rfl ?_
        refine V_iload hC dX3_shares_126 rfl ?_
        refine V_i2l hC dX3_shares_128 ?_
        refine V_cko (fun hm => V_callV_V (c := 3) (As := [.long (Int32.toInt64 v5)]) (rest := []) (d' := 0) hC dX3_shares_129 1 (lw_V q1697 q1699 qs59 q87 q1700) (by decide +kernel) (List.mem_singleton.mp hm) (by decide) (by decide) rfl rfl rfl (Nat.le_of_ble_eq_true rfl) (Nat.le_trans (by decide) hd) (by decide) vMP_l (fun _ h => c_X3_enters (Nat.le_refl _) h) (fun σ_6 => ?_))
        refine V_iload hC dX3_shares_132 rfl ?_
        refine V_istore_n (ls' := [some (.ref a0), none, none, some (.int v5), some (.int v4), some (.int v5)]) hC dX3_shares_134 (by decide) rfl rfl ?_
        refine V_iincL (v := v4 + 1) (ls' := fun v4_1 => [some (.ref a0), none, none, some (.int v5), some (.int v4_1), some (.int v5)]) hC dX3_shares_135 rfl (by decide) rfl rfl (fun _ => rfl) (fun v4_1 => ?_)
        refine V_goto (tgt := 75) hC dX3_shares_138 (by decide) ?_
        refine V_clr [5] (ls' := [some (.ref a0), none, none, some (.int v5), some (.int v4_1), none]) rfl ?_
        exact ih σ_6 v5 v4_1
      · intro k_2 hk_2
        exact (w_X3_shares_91 hd a0 σ_5 v3 v4 k_2 hk_2) FU (-800)
theorem w_X3_shares_30 {l : Launch} {d n0 s0 : Nat} (hd : 2 ≤ d) (a0 : Nat) (x1 : Int32) (σ_1 : vMem) (k : Int32 → Option (Int32 × vMem)) (hk : ∀ (v2 : Int32), V (P_X3_shares l d n0 s0) (vEmb eI) σ_1 53 [some (.ref a0), some (.int x1), some (.int v2), none, none, none] [] (k v2)) : ∀ (n_2 : Nat) (v2_1 : Int32) (v3_1 : Int32), V (P_X3_shares l d n0 s0) (vEmb eI) σ_1 30 [some (.ref a0), some (.int x1), some (.int v2_1), some (.int v3_1), none, none] [] (f_X3_shares_30 a0 x1 σ_1 k n_2 v2_1 v3_1) := by
  have hC : vPx (P_X3_shares l d n0 s0) cX3_shares 6 "NobodyBeenAftModel" (some .int) d := vMP_cx
  intro n_2
  induction n_2 with
  | zero =>
    intro v2_1 v3_1
    exact V_none
  | succ n_2 ih =>
    intro v2_1 v3_1
    refine V_eq (f_X3_shares_30.eq_2 ..) ?_
    refine V_iload_n hC dX3_shares_30 rfl ?_
    refine V_aload_n hC dX3_shares_31 rfl ?_
    refine g_X3_117 hC dX3_shares_32 ?_
    refine V_icmp_ge (tgt := 53) hC dX3_shares_35 (by decide) ?_ ?_
    · refine V_clr [3] (ls' := [some (.ref a0), some (.int x1), some (.int v2_1), none, none, none]) rfl ?_
      exact hk v2_1
    · refine V_iload_n hC dX3_shares_38 rfl ?_
      refine V_aload_n hC dX3_shares_39 rfl ?_
      refine V_iload_n hC dX3_shares_40 rfl ?_
      refine V_iload_n hC dX3_shares_41 rfl ?_
      refine V_cko (fun hm => V_callV_PI (c := 3) (As := [.int v3_1, .int x1]) (rest := [.int v2_1]) (d' := 0) hC dX3_shares_42 2 (lw_V q1845 q1847 qs75 q87 q1848) (by decide +kernel) (List.mem_singleton.mp hm) (by decide) (by decide) rfl rfl rfl (Nat.le_of_ble_eq_true rfl) (Nat.le_trans (by decide) hd) (by decide) vMP_l (fun _ h => c_X3_spare (Nat.le_refl _) h) (fun r_2 => ?_))
      refine V_iadd hC dX3_shares_45 ?_
      refine V_istore_nL (ls' := fun v2_2 => [some (.ref a0), some (.int x1), some (.int v2_2), some (.int v3_1), none, none]) hC dX3_shares_46 (by decide) rfl (fun _ => rfl) (fun v2_2 => ?_)
      refine V_iincL (v := v3_1 + 1) (ls' := fun v3_2 => [some (.ref a0), some (.int x1), some (.int v2_2), some (.int v3_2), none, none]) hC dX3_shares_47 rfl (by decide) rfl rfl (fun _ => rfl) (fun v3_2 => ?_)
      refine V_goto (tgt := 30) hC dX3_shares_50 (by decide) ?_
      exact ih v2_2 v3_2
theorem w_X3_shares {l : Launch} {d n0 s0 : Nat} (hd : 2 ≤ d) (σ : vMem) (a0 : Nat) (x1 : Int32) : V (P_X3_shares l d n0 s0) (vEmb eI) σ 0 [some (.ref a0), some (.int x1), none, none, none, none] [] (f_X3_shares σ a0 x1) := by
  have hC : vPx (P_X3_shares l d n0 s0) cX3_shares 6 "NobodyBeenAftModel" (some .int) d := vMP_cx
  refine V_eq (f_X3_shares.eq_1 ..) ?_
  refine V_aload_n hC dX3_shares_0 rfl ?_
  refine V_iconst (v := 0) hC dX3_shares_1 rfl ?_
  refine p_X3_103 hC dX3_shares_2 (fun σ_1 => ?_)
  refine V_iload_n hC dX3_shares_5 rfl ?_
  refine V_i2l hC dX3_shares_6 ?_
  refine V_lconst (v := 0) hC dX3_shares_7 rfl ?_
  refine V_ldc2 hC dX3_shares_8 q1665 ?_
  refine V_callS_PI (As := [.long (Int32.toInt64 x1), .long 0, .long 99]) (rest := []) (d' := 0) hC dX3_shares_11 3 (lw_S q1448 q1449 q87 q1450) (by decide +kernel) rfl rfl (Nat.le_of_ble_eq_true rfl) (Nat.le_trans (by decide) hd) (by decide) vMP_l (fun _ h => c_X3_in (Nat.le_refl _) h) (fun r => ?_)
  refine V_if_eq (tgt := 24) hC dX3_shares_14 (by decide) ?_ ?_
  · refine V_iconst (v := (-1)) hC dX3_shares_24 rfl ?_
    exact V_ireturn dX3_shares_25 rfl rfl
  · refine V_aload_n hC dX3_shares_17 rfl ?_
    refine g_X3_117 hC dX3_shares_18 ?_
    refine V_if_ne (tgt := 26) hC dX3_shares_21 (by decide) ?_ ?_
    · refine V_iconst (v := 0) hC dX3_shares_26 rfl ?_
      refine V_istore_n (ls' := [some (.ref a0), some (.int x1), some (.int 0), none, none, none]) hC dX3_shares_27 (by decide) rfl rfl ?_
      refine V_iconst (v := 0) hC dX3_shares_28 rfl ?_
      refine V_istore_n (ls' := [some (.ref a0), some (.int x1), some (.int 0), some (.int 0), none, none]) hC dX3_shares_29 (by decide) rfl rfl ?_
      refine V_let (B := fun k => ∀ (v2 : Int32), V (P_X3_shares l d n0 s0) (vEmb eI) σ_1 53 [some (.ref a0), some (.int x1), some (.int v2), none, none, none] [] (k v2)) ?_ ?_
      · intro v2
        refine V_iload_n hC dX3_shares_53 rfl ?_
        refine V_if_ge (tgt := 60) hC dX3_shares_54 (by decide) ?_ ?_
        · refine V_aload_n hC dX3_shares_60 rfl ?_
          refine V_iload_n hC dX3_shares_61 rfl ?_
          refine V_cko (fun hm => V_callV_V (c := 3) (As := [.int x1]) (rest := []) (d' := 1) hC dX3_shares_62 1 (lw_V q1849 q1851 qs76 q87 q1852) (by decide +kernel) (List.mem_singleton.mp hm) (by decide) (by decide) rfl rfl rfl (Nat.le_of_ble_eq_true rfl) (Nat.le_trans (by decide) hd) (by decide) vMP_l (fun _ h => c_X3_laysFlows (Nat.le_refl _) h) (fun σ_2 => ?_))
          refine V_aload_n hC dX3_shares_65 rfl ?_
          refine V_iconst (v := 0) hC dX3_shares_66 rfl ?_
          refine p_X3_110 hC dX3_shares_67 (fun σ_3 => ?_)
          refine V_iconst (v := 0) hC dX3_shares_70 rfl ?_
          refine V_istore_n (ls' := [some (.ref a0), some (.int x1), some (.int v2), some (.int 0), none, none]) hC dX3_shares_71 (by decide) rfl rfl ?_
          refine V_iconst (v := 0) hC dX3_shares_72 rfl ?_
          refine V_istore (ls' := [some (.ref a0), some (.int x1), some (.int v2), some (.int 0), some (.int 0), none]) hC dX3_shares_73 (by decide) rfl rfl ?_
          refine V_let (B := fun k_1 => ∀ (σ_4 : vMem), V (P_X3_shares l d n0 s0) (vEmb eI) σ_4 141 [some (.ref a0), none, none, none, none, none] [] (k_1 σ_4)) ?_ ?_
          · intro σ_4
            refine V_aload_n hC dX3_shares_141 rfl ?_
            refine g_X3_76 hC dX3_shares_142 (fun b => ?_)
            refine V_sipush (v := 800) hC dX3_shares_145 rfl ?_
            refine V_iald hC dX3_shares_148 ?_
            exact V_ireturn dX3_shares_149 rfl rfl
          · intro k_1 hk_1
            refine V_clr [1, 2] (ls' := [some (.ref a0), none, none, some (.int 0), some (.int 0), none]) rfl ?_
            exact (w_X3_shares_75 hd a0 k_1 hk_1) FU σ_3 0 0
        · refine V_bipush (v := (-2)) hC dX3_shares_57 rfl ?_
          exact V_ireturn dX3_shares_59 rfl rfl
      · intro k hk
        exact (w_X3_shares_30 hd a0 x1 σ_1 k hk) FU 0 0
    · refine V_iconst (v := (-1)) hC dX3_shares_24 rfl ?_
      exact V_ireturn dX3_shares_25 rfl rfl
theorem c_X3_shares {l : Launch} {d : Nat} (hd : 2 ≤ d) {σ : vMem} {a0 : Nat} {x1 : Int32} {r : Int32 × vMem} (h : f_X3_shares σ a0 x1 = some r) : vOk l yX3_shares cX3_shares 6 (some .int) d [.ref a0, .int x1] σ (.inl ((eI).1 r, (eI).2 r)) := V_method (em := eI) [some (.ref a0), some (.int x1), none, none, none, none] (by decide +kernel) rfl (Nat.le_of_ble_eq_true rfl) (w_X3_shares hd σ a0 x1) h
/-! NobodyBeenAftModel.fast(I)I -/
def f_X3_fast_81 (a0 : Nat) (x1 : Int32) (σ_1 : vMem) (v2 : Int32) (v3_1 : Int32) (v4_1 : Int32) (v5 : Int32) (k_2 : Int32 → Option (Int32 × vMem)) : Nat → Int32 → Int32 → Option (Int32 × vMem)
  | 0, _, _ => none
  | n_1 + 1, v6_1, v7 => cko σ_1 a0 [3] (if (gi σ_1 a0 7) ≤ v7 then (k_2 v6_1) else bp (f_X3_has σ_1 v5 v7) (fun r_4 => vl (fun (y_3 : Int32) => vl (v6_1 - y_3) (fun v6_2 => vl (v7 + 1) (fun v7_1 => f_X3_fast_81 a0 x1 σ_1 v2 v3_1 v4_1 v5 k_2 n_1 v6_2 v7_1))) (fun k_9 => if r_4 = 0 then (cko σ_1 a0 [3] (dr (gr σ_1 a0 13) (fun b => cka σ_1 b 105 v7 (k_9 (x1 * (gi σ_1 b (Int32.toNatClampNeg v7))))))) else k_9 0)))
def f_X3_fast_64 (a0 : Nat) (x1 : Int32) (σ_1 : vMem) (v2 : Int32) (k_1 : Int32 → Int32 → Option (Int32 × vMem)) : Nat → Int32 → Int32 → Int32 → Option (Int32 × vMem)
  | 0, _, _, _ => none
  | n + 1, v3_1, v4_1, v5 => cko σ_1 a0 [3] (if (1 <<< ((gi σ_1 a0 7) &&& 31)) ≤ v5 then (k_1 v3_1 v4_1) else vl (fun (v6 : Int32) => vl (fun (y : Int32) => vl (fun (y_1 : Int32) => vl (fun (y_2 : Int32) => vl (v5 + 1) (fun v5_1 => f_X3_fast_64 a0 x1 σ_1 v2 k_1 n y_2 y_1 v5_1)) (fun k_5 => vl (k_5 v3_1) (fun k_6 => if v6 < 0 then k_6 else if y = 0 then k_6 else k_5 v5))) (fun k_4 => vl (k_4 v4_1) (fun k_7 => if v6 < 0 then k_7 else if y = 0 then k_7 else k_4 v6))) (fun k_3 => vl (k_3 1) (fun k_8 => if v3_1 < 0 then k_8 else bp (f_J7_bitCount σ_1 v5) (fun r_2 => bp (f_J7_bitCount σ_1 v3_1) (fun r_3 => if r_3 ≤ r_2 then (k_3 0) else k_8))))) (fun k_2 => f_X3_fast_81 a0 x1 σ_1 v2 v3_1 v4_1 v5 k_2 FU v2 0))
def f_X3_fast_30 (a0 : Nat) (x1 : Int32) (σ_1 : vMem) (k : Int32 → Option (Int32 × vMem)) : Nat → Int32 → Int32 → Option (Int32 × vMem)
  | 0, _, _ => none
  | n_2 + 1, v2_1, v3_2 => cko σ_1 a0 [3] (if (gi σ_1 a0 7) ≤ v3_2 then (k v2_1) else cko σ_1 a0 [3] (dr (gr σ_1 a0 14) (fun b_1 => cka σ_1 b_1 105 (41 + v3_2) (vl (v2_1 + (gi σ_1 b_1 (Int32.toNatClampNeg (41 + v3_2)))) (fun v2_2 => vl (v3_2 + 1) (fun v3_3 => f_X3_fast_30 a0 x1 σ_1 k n_2 v2_2 v3_3))))))
def f_X3_fast (σ : vMem) (a0 : Nat) (x1 : Int32) : Option (Int32 × vMem) := cko σ a0 [3] (vl (si σ a0 0 0) (fun σ_1 => bp (f_X3_in σ_1 (Int32.toInt64 x1) 0 99) (fun r => if r = 0 then (some ((-1), σ_1)) else cko σ_1 a0 [3] (if ¬ (gi σ_1 a0 7) = 0 then (vl (fun (v2 : Int32) => vl (fun (v3 : Int32) (v4 : Int32) => cko σ_1 a0 [3] (vl (si σ_1 a0 1 0) (fun σ_2 => bp (f_J7_bitCount σ_2 v3) (fun r_1 => cko σ_2 a0 [3] (bv (f_X3_enters σ_2 a0 (Int32.toInt64 r_1)) (fun σ_3 => cko σ_3 a0 [3] (bv (f_X3_enters σ_3 a0 (Int32.toInt64 v4)) (fun σ_4 => some (v3, σ_4))))))))) (fun k_1 => f_X3_fast_64 a0 x1 σ_1 v2 k_1 FU (-1) 0 0)) (fun k => f_X3_fast_30 a0 x1 σ_1 k FU 0 0)) else some ((-1), σ_1)))))
abbrev P_X3_fast (l : Launch) (d n0 s0 : Nat) : vX → Prop := vMP l yX3_fast cX3_fast 8 (some .int) d n0 s0
theorem w_X3_fast_81 {l : Launch} {d n0 s0 : Nat} (hd : 1 ≤ d) (a0 : Nat) (x1 : Int32) (σ_1 : vMem) (v2 : Int32) (v3_1 : Int32) (v4_1 : Int32) (v5 : Int32) (k_2 : Int32 → Option (Int32 × vMem)) (hk_2 : ∀ (v6 : Int32), V (P_X3_fast l d n0 s0) (vEmb eI) σ_1 124 [some (.ref a0), some (.int x1), some (.int v2), some (.int v3_1), some (.int v4_1), some (.int v5), some (.int v6), none] [] (k_2 v6)) : ∀ (n_1 : Nat) (v6_1 : Int32) (v7 : Int32), V (P_X3_fast l d n0 s0) (vEmb eI) σ_1 81 [some (.ref a0), some (.int x1), some (.int v2), some (.int v3_1), some (.int v4_1), some (.int v5), some (.int v6_1), some (.int v7)] [] (f_X3_fast_81 a0 x1 σ_1 v2 v3_1 v4_1 v5 k_2 n_1 v6_1 v7) := by
  have hC : vPx (P_X3_fast l d n0 s0) cX3_fast 8 "NobodyBeenAftModel" (some .int) d := vMP_cx
  intro n_1
  induction n_1 with
  | zero =>
    intro v6_1 v7
    exact V_none
  | succ n_1 ih =>
    intro v6_1 v7
    refine V_eq (f_X3_fast_81.eq_2 ..) ?_
    refine V_iload hC dX3_fast_81 rfl ?_
    refine V_aload_n hC dX3_fast_83 rfl ?_
    refine g_X3_117 hC dX3_fast_84 ?_
    refine V_icmp_ge (tgt := 124) hC dX3_fast_87 (by decide) ?_ ?_
    · refine V_clr [7] (ls' := [some (.ref a0), some (.int x1), some (.int v2), some (.int v3_1), some (.int v4_1), some (.int v5), some (.int v6_1), none]) rfl ?_
      exact hk_2 v6_1
    · refine V_iload hC dX3_fast_90 rfl ?_
      refine V_iload hC dX3_fast_92 rfl ?_
      refine V_iload hC dX3_fast_94 rfl ?_
      refine V_callS_PI (As := [.int v5, .int v7]) (rest := [.int v6_1]) (d' := 0) hC dX3_fast_96 2 (lw_S q1737 q1738 q87 q1739) (by decide +kernel) rfl rfl (Nat.le_of_ble_eq_true rfl) (Nat.le_trans (by decide) hd) (by decide) vMP_l (fun _ h => c_X3_has (Nat.le_refl _) h) (fun r_4 => ?_)
      refine V_let (B := fun k_9 => ∀ (y_3 : Int32), V (P_X3_fast l d n0 s0) (vEmb eI) σ_1 115 [some (.ref a0), some (.int x1), some (.int v2), some (.int v3_1), some (.int v4_1), some (.int v5), none, some (.int v7)] [.int y_3, .int v6_1] (k_9 y_3)) ?_ ?_
      · intro y_3
        refine V_isub hC dX3_fast_115 ?_
        refine V_istoreL (ls' := fun v6_2 => [some (.ref a0), some (.int x1), some (.int v2), some (.int v3_1), some (.int v4_1), some (.int v5), some (.int v6_2), some (.int v7)]) hC dX3_fast_116 (by decide) rfl (fun _ => rfl) (fun v6_2 => ?_)
        refine V_iincL (v := v7 + 1) (ls' := fun v7_1 => [some (.ref a0), some (.int x1), some (.int v2), some (.int v3_1), some (.int v4_1), some (.int v5), some (.int v6_2), some (.int v7_1)]) hC dX3_fast_118 rfl (by decide) rfl rfl (fun _ => rfl) (fun v7_1 => ?_)
        refine V_goto (tgt := 81) hC dX3_fast_121 (by decide) ?_
        exact ih v6_2 v7_1
      · intro k_9 hk_9
        refine V_if_eq (tgt := 106) hC dX3_fast_99 (by decide) ?_ ?_
        · refine V_iload_n hC dX3_fast_106 rfl ?_
          refine V_aload_n hC dX3_fast_107 rfl ?_
          refine g_X3_31 hC dX3_fast_108 (fun b => ?_)
          refine V_iload hC dX3_fast_111 rfl ?_
          refine V_iald hC dX3_fast_113 ?_
          refine V_imul hC dX3_fast_114 ?_
          refine V_clr [6] (ls' := [some (.ref a0), some (.int x1), some (.int v2), some (.int v3_1), some (.int v4_1), some (.int v5), none, some (.int v7)]) rfl ?_
          exact hk_9 (x1 * (gi σ_1 b (Int32.toNatClampNeg v7)))
        · refine V_iconst (v := 0) hC dX3_fast_102 rfl ?_
          refine V_goto (tgt := 115) hC dX3_fast_103 (by decide) ?_
          refine V_clr [6] (ls' := [some (.ref a0), some (.int x1), some (.int v2), some (.int v3_1), some (.int v4_1), some (.int v5), none, some (.int v7)]) rfl ?_
          exact hk_9 0
theorem w_X3_fast_64 {l : Launch} {d n0 s0 : Nat} (hd : 1 ≤ d) (a0 : Nat) (x1 : Int32) (σ_1 : vMem) (v2 : Int32) (k_1 : Int32 → Int32 → Option (Int32 × vMem)) (hk_1 : ∀ (v3 : Int32), ∀ (v4 : Int32), V (P_X3_fast l d n0 s0) (vEmb eI) σ_1 189 [some (.ref a0), none, none, some (.int v3), some (.int v4), none, none, none] [] (k_1 v3 v4)) : ∀ (n : Nat) (v3_1 : Int32) (v4_1 : Int32) (v5 : Int32), V (P_X3_fast l d n0 s0) (vEmb eI) σ_1 64 [some (.ref a0), some (.int x1), some (.int v2), some (.int v3_1), some (.int v4_1), some (.int v5), none, none] [] (f_X3_fast_64 a0 x1 σ_1 v2 k_1 n v3_1 v4_1 v5) := by
  have hC : vPx (P_X3_fast l d n0 s0) cX3_fast 8 "NobodyBeenAftModel" (some .int) d := vMP_cx
  intro n
  induction n with
  | zero =>
    intro v3_1 v4_1 v5
    exact V_none
  | succ n ih =>
    intro v3_1 v4_1 v5
    refine V_eq (f_X3_fast_64.eq_2 ..) ?_
    refine V_iload hC dX3_fast_64 rfl ?_
    refine V_iconst (v := 1) hC dX3_fast_66 rfl ?_
    refine V_aload_n hC dX3_fast_67 rfl ?_
    refine g_X3_117 hC dX3_fast_68 ?_
    refine V_ishl hC dX3_fast_71 ?_
    refine V_icmp_ge (tgt := 189) hC dX3_fast_72 (by decide) ?_ ?_
    · refine V_clr [1, 2, 5] (ls' := [some (.ref a0), none, none, some (.int v3_1), some (.int v4_1), none, none, none]) rfl ?_
      exact hk_1 v3_1 v4_1
    · refine V_iload_n hC dX3_fast_75 rfl ?_
      refine V_istore (ls' := [some (.ref a0), some (.int x1), some (.int v2), some (.int v3_1), some (.int v4_1), some (.int v5), some (.int v2), none]) hC dX3_fast_76 (by decide) rfl rfl ?_
      refine V_iconst (v := 0) hC dX3_fast_78 rfl ?_
      refine V_istore (ls' := [some (.ref a0), some (.int x1), some (.int v2), some (.int v3_1), some (.int v4_1), some (.int v5), some (.int v2), some (.int 0)]) hC dX3_fast_79 (by decide) rfl rfl ?_
      refine V_let (B := fun k_2 => ∀ (v6 : Int32), V (P_X3_fast l d n0 s0) (vEmb eI) σ_1 124 [some (.ref a0), some (.int x1), some (.int v2), some (.int v3_1), some (.int v4_1), some (.int v5), some (.int v6), none] [] (k_2 v6)) ?_ ?_
      · intro v6
        refine V_iload_n hC dX3_fast_124 rfl ?_
        refine V_let (B := fun k_3 => ∀ (y : Int32), V (P_X3_fast l d n0 s0) (vEmb eI) σ_1 145 [some (.ref a0), some (.int x1), some (.int v2), some (.int v3_1), some (.int v4_1), some (.int v5), some (.int v6), none] [.int y] (k_3 y)) ?_ ?_
        · intro y
          refine V_istore (ls' := [some (.ref a0), some (.int x1), some (.int v2), some (.int v3_1), some (.int v4_1), some (.int v5), some (.int v6), some (.int y)]) hC dX3_fast_145 (by decide) rfl rfl ?_
          refine V_iload hC dX3_fast_147 rfl ?_
          refine V_let (B := fun k_4 => ∀ (y_1 : Int32), V (P_X3_fast l d n0 s0) (vEmb eI) σ_1 164 [some (.ref a0), some (.int x1), some (.int v2), some (.int v3_1), none, some (.int v5), some (.int v6), some (.int y)] [.int y_1] (k_4 y_1)) ?_ ?_
          · intro y_1
            refine V_istore (ls' := [some (.ref a0), some (.int x1), some (.int v2), some (.int v3_1), some (.int y_1), some (.int v5), some (.int v6), some (.int y)]) hC dX3_fast_164 (by decide) rfl rfl ?_
            refine V_iload hC dX3_fast_166 rfl ?_
            refine V_let (B := fun k_5 => ∀ (y_2 : Int32), V (P_X3_fast l d n0 s0) (vEmb eI) σ_1 182 [some (.ref a0), some (.int x1), some (.int v2), none, some (.int y_1), some (.int v5), none, none] [.int y_2] (k_5 y_2)) ?_ ?_
            · intro y_2
              refine V_istore_n (ls' := [some (.ref a0), some (.int x1), some (.int v2), some (.int y_2), some (.int y_1), some (.int v5), none, none]) hC dX3_fast_182 (by decide) rfl rfl ?_
              refine V_iincL (v := v5 + 1) (ls' := fun v5_1 => [some (.ref a0), some (.int x1), some (.int v2), some (.int y_2), some (.int y_1), some (.int v5_1), none, none]) hC dX3_fast_183 rfl (by decide) rfl rfl (fun _ => rfl) (fun v5_1 => ?_)
              refine V_goto (tgt := 64) hC dX3_fast_186 (by decide) ?_
              exact ih y_2 y_1 v5_1
            · intro k_5 hk_5
              refine V_let (B := fun k_6 => V (P_X3_fast l d n0 s0) (vEmb eI) σ_1 181 [some (.ref a0), some (.int x1), some (.int v2), some (.int v3_1), some (.int y_1), some (.int v5), none, none] [] (k_6)) ?_ ?_
              · skip
                refine V_iload_n hC dX3_fast_181 rfl ?_
                refine V_clr [3] (ls' := [some (.ref a0), some (.int x1), some (.int v2), none, some (.int y_1), some (.int v5), none, none]) rfl ?_
                exact hk_5 v3_1
              · intro k_6 hk_6
                refine V_if_lt (tgt := 181) hC dX3_fast_168 (by decide) ?_ ?_
                · refine V_clr [6, 7] (ls' := [some (.ref a0), some (.int x1), some (.int v2), some (.int v3_1), some (.int y_1), some (.int v5), none, none]) rfl ?_
                  exact hk_6
                · refine V_iload hC dX3_fast_171 rfl ?_
                  refine V_if_eq (tgt := 181) hC dX3_fast_173 (by decide) ?_ ?_
                  · refine V_clr [6, 7] (ls' := [some (.ref a0), some (.int x1), some (.int v2), some (.int v3_1), some (.int y_1), some (.int v5), none, none]) rfl ?_
                    exact hk_6
                  · refine V_iload hC dX3_fast_176 rfl ?_
                    refine V_goto (tgt := 182) hC dX3_fast_178 (by decide) ?_
                    refine V_clr [3, 6, 7] (ls' := [some (.ref a0), some (.int x1), some (.int v2), none, some (.int y_1), some (.int v5), none, none]) rfl ?_
                    exact hk_5 v5
          · intro k_4 hk_4
            refine V_let (B := fun k_7 => V (P_X3_fast l d n0 s0) (vEmb eI) σ_1 162 [some (.ref a0), some (.int x1), some (.int v2), some (.int v3_1), some (.int v4_1), some (.int v5), some (.int v6), some (.int y)] [] (k_7)) ?_ ?_
            · skip
              refine V_iload hC dX3_fast_162 rfl ?_
              refine V_clr [4] (ls' := [some (.ref a0), some (.int x1), some (.int v2), some (.int v3_1), none, some (.int v5), some (.int v6), some (.int y)]) rfl ?_
              exact hk_4 v4_1
            · intro k_7 hk_7
              refine V_if_lt (tgt := 162) hC dX3_fast_149 (by decide) ?_ ?_
              · exact hk_7
              · refine V_iload hC dX3_fast_152 rfl ?_
                refine V_if_eq (tgt := 162) hC dX3_fast_154 (by decide) ?_ ?_
                · exact hk_7
                · refine V_iload hC dX3_fast_157 rfl ?_
                  refine V_goto (tgt := 164) hC dX3_fast_159 (by decide) ?_
                  refine V_clr [4] (ls' := [some (.ref a0), some (.int x1), some (.int v2), some (.int v3_1), none, some (.int v5), some (.int v6), some (.int y)]) rfl ?_
                  exact hk_4 v6
        · intro k_3 hk_3
          refine V_let (B := fun k_8 => V (P_X3_fast l d n0 s0) (vEmb eI) σ_1 140 [some (.ref a0), some (.int x1), some (.int v2), some (.int v3_1), some (.int v4_1), some (.int v5), some (.int v6), none] [] (k_8)) ?_ ?_
          · skip
            refine V_iconst (v := 1) hC dX3_fast_140 rfl ?_
            refine V_goto (tgt := 145) hC dX3_fast_141 (by decide) ?_
            exact hk_3 1
          · intro k_8 hk_8
            refine V_if_lt (tgt := 140) hC dX3_fast_125 (by decide) ?_ ?_
            · exact hk_8
            · refine V_iload hC dX3_fast_128 rfl ?_
              refine V_callS_PI (As := [.int v5]) (rest := []) (d' := 0) hC dX3_fast_130 1 (lw_S q1777 q624 q103 q625) (by decide +kernel) rfl rfl (Nat.le_of_ble_eq_true rfl) (Nat.le_trans (by decide) hd) (by decide) vMP_l (fun _ h => c_J7_bitCount (Nat.le_refl _) h) (fun r_2 => ?_)
              refine V_iload_n hC dX3_fast_133 rfl ?_
              refine V_callS_PI (As := [.int v3_1]) (rest := [.int r_2]) (d' := 0) hC dX3_fast_134 1 (lw_S q1777 q624 q103 q625) (by decide +kernel) rfl rfl (Nat.le_of_ble_eq_true rfl) (Nat.le_trans (by decide) hd) (by decide) vMP_l (fun _ h => c_J7_bitCount (Nat.le_refl _) h) (fun r_3 => ?_)
              refine V_icmp_ge (tgt := 144) hC dX3_fast_137 (by decide) ?_ ?_
              · refine V_iconst (v := 0) hC dX3_fast_144 rfl ?_
                exact hk_3 0
              · exact hk_8
      · intro k_2 hk_2
        exact (w_X3_fast_81 hd a0 x1 σ_1 v2 v3_1 v4_1 v5 k_2 hk_2) FU v2 0
theorem w_X3_fast_30 {l : Launch} {d n0 s0 : Nat} (hd : 1 ≤ d) (a0 : Nat) (x1 : Int32) (σ_1 : vMem) (k : Int32 → Option (Int32 × vMem)) (hk : ∀ (v2 : Int32), V (P_X3_fast l d n0 s0) (vEmb eI) σ_1 56 [some (.ref a0), some (.int x1), some (.int v2), none, none, none, none, none] [] (k v2)) : ∀ (n_2 : Nat) (v2_1 : Int32) (v3_2 : Int32), V (P_X3_fast l d n0 s0) (vEmb eI) σ_1 30 [some (.ref a0), some (.int x1), some (.int v2_1), some (.int v3_2), none, none, none, none] [] (f_X3_fast_30 a0 x1 σ_1 k n_2 v2_1 v3_2) := by
  have hC : vPx (P_X3_fast l d n0 s0) cX3_fast 8 "NobodyBeenAftModel" (some .int) d := vMP_cx
  intro n_2
  induction n_2 with
  | zero =>
    intro v2_1 v3_2
    exact V_none
  | succ n_2 ih =>
    intro v2_1 v3_2
    refine V_eq (f_X3_fast_30.eq_2 ..) ?_
    refine V_iload_n hC dX3_fast_30 rfl ?_
    refine V_aload_n hC dX3_fast_31 rfl ?_
    refine g_X3_117 hC dX3_fast_32 ?_
    refine V_icmp_ge (tgt := 56) hC dX3_fast_35 (by decide) ?_ ?_
    · refine V_clr [3] (ls' := [some (.ref a0), some (.int x1), some (.int v2_1), none, none, none, none, none]) rfl ?_
      exact hk v2_1
    · refine V_iload_n hC dX3_fast_38 rfl ?_
      refine V_aload_n hC dX3_fast_39 rfl ?_
      refine g_X3_34 hC dX3_fast_40 (fun b_1 => ?_)
      refine V_bipush (v := 41) hC dX3_fast_43 rfl ?_
      refine V_iload_n hC dX3_fast_45 rfl ?_
      refine V_iadd hC dX3_fast_46 ?_
      refine V_iald hC dX3_fast_47 ?_
      refine V_iadd hC dX3_fast_48 ?_
      refine V_istore_nL (ls' := fun v2_2 => [some (.ref a0), some (.int x1), some (.int v2_2), some (.int v3_2), none, none, none, none]) hC dX3_fast_49 (by decide) rfl (fun _ => rfl) (fun v2_2 => ?_)
      refine V_iincL (v := v3_2 + 1) (ls' := fun v3_3 => [some (.ref a0), some (.int x1), some (.int v2_2), some (.int v3_3), none, none, none, none]) hC dX3_fast_50 rfl (by decide) rfl rfl (fun _ => rfl) (fun v3_3 => ?_)
      refine V_goto (tgt := 30) hC dX3_fast_53 (by decide) ?_
      exact ih v2_2 v3_3
theorem w_X3_fast {l : Launch} {d n0 s0 : Nat} (hd : 1 ≤ d) (σ : vMem) (a0 : Nat) (x1 : Int32) : V (P_X3_fast l d n0 s0) (vEmb eI) σ 0 [some (.ref a0), some (.int x1), none, none, none, none, none, none] [] (f_X3_fast σ a0 x1) := by
  have hC : vPx (P_X3_fast l d n0 s0) cX3_fast 8 "NobodyBeenAftModel" (some .int) d := vMP_cx
  refine V_eq (f_X3_fast.eq_1 ..) ?_
  refine V_aload_n hC dX3_fast_0 rfl ?_
  refine V_iconst (v := 0) hC dX3_fast_1 rfl ?_
  refine p_X3_103 hC dX3_fast_2 (fun σ_1 => ?_)
  refine V_iload_n hC dX3_fast_5 rfl ?_
  refine V_i2l hC dX3_fast_6 ?_
  refine V_lconst (v := 0) hC dX3_fast_7 rfl ?_
  refine V_ldc2 hC dX3_fast_8 q1665 ?_
  refine V_callS_PI (As := [.long (Int32.toInt64 x1), .long 0, .long 99]) (rest := []) (d' := 0) hC dX3_fast_11 3 (lw_S q1448 q1449 q87 q1450) (by decide +kernel) rfl rfl (Nat.le_of_ble_eq_true rfl) (Nat.le_trans (by decide) hd) (by decide) vMP_l (fun _ h => c_X3_in (Nat.le_refl _) h) (fun r => ?_)
  refine V_if_eq (tgt := 24) hC dX3_fast_14 (by decide) ?_ ?_
  · refine V_iconst (v := (-1)) hC dX3_fast_24 rfl ?_
    exact V_ireturn dX3_fast_25 rfl rfl
  · refine V_aload_n hC dX3_fast_17 rfl ?_
    refine g_X3_117 hC dX3_fast_18 ?_
    refine V_if_ne (tgt := 26) hC dX3_fast_21 (by decide) ?_ ?_
    · refine V_iconst (v := 0) hC dX3_fast_26 rfl ?_
      refine V_istore_n (ls' := [some (.ref a0), some (.int x1), some (.int 0), none, none, none, none, none]) hC dX3_fast_27 (by decide) rfl rfl ?_
      refine V_iconst (v := 0) hC dX3_fast_28 rfl ?_
      refine V_istore_n (ls' := [some (.ref a0), some (.int x1), some (.int 0), some (.int 0), none, none, none, none]) hC dX3_fast_29 (by decide) rfl rfl ?_
      refine V_let (B := fun k => ∀ (v2 : Int32), V (P_X3_fast l d n0 s0) (vEmb eI) σ_1 56 [some (.ref a0), some (.int x1), some (.int v2), none, none, none, none, none] [] (k v2)) ?_ ?_
      · intro v2
        refine V_iconst (v := (-1)) hC dX3_fast_56 rfl ?_
        refine V_istore_n (ls' := [some (.ref a0), some (.int x1), some (.int v2), some (.int (-1)), none, none, none, none]) hC dX3_fast_57 (by decide) rfl rfl ?_
        refine V_iconst (v := 0) hC dX3_fast_58 rfl ?_
        refine V_istore (ls' := [some (.ref a0), some (.int x1), some (.int v2), some (.int (-1)), some (.int 0), none, none, none]) hC dX3_fast_59 (by decide) rfl rfl ?_
        refine V_iconst (v := 0) hC dX3_fast_61 rfl ?_
        refine V_istore (ls' := [some (.ref a0), some (.int x1), some (.int v2), some (.int (-1)), some (.int 0), some (.int 0), none, none]) hC dX3_fast_62 (by decide) rfl rfl ?_
        refine V_let (B := fun k_1 => ∀ (v3 : Int32), ∀ (v4 : Int32), V (P_X3_fast l d n0 s0) (vEmb eI) σ_1 189 [some (.ref a0), none, none, some (.int v3), some (.int v4), none, none, none] [] (k_1 v3 v4)) ?_ ?_
        · intro v3 v4
          refine V_aload_n hC dX3_fast_189 rfl ?_
          refine V_iconst (v := 0) hC dX3_fast_190 rfl ?_
          refine p_X3_110 hC dX3_fast_191 (fun σ_2 => ?_)
          refine V_aload_n hC dX3_fast_194 rfl ?_
          refine V_iload_n hC dX3_fast_195 rfl ?_
          refine V_callS_PI (As := [.int v3]) (rest := [.ref a0]) (d' := 0) hC dX3_fast_196 1 (lw_S q1777 q624 q103 q625) (by decide +kernel) rfl rfl (Nat.le_of_ble_eq_true rfl) (Nat.le_trans (by decide) hd) (by decide) vMP_l (fun _ h => c_J7_bitCount (Nat.le_refl _) h) (fun r_1 => ?_)
          refine V_i2l hC dX3_fast_199 ?_
          refine V_cko (fun hm => V_callV_V (c := 3) (As := [.long (Int32.toInt64 r_1)]) (rest := []) (d' := 0) hC dX3_fast_200 1 (lw_V q1697 q1699 qs59 q87 q1700) (by decide +kernel) (List.mem_singleton.mp hm) (by decide) (by decide) rfl rfl rfl (Nat.le_of_ble_eq_true rfl) (Nat.le_trans (by decide) hd) (by decide) vMP_l (fun _ h => c_X3_enters (Nat.le_refl _) h) (fun σ_3 => ?_))
          refine V_aload_n hC dX3_fast_203 rfl ?_
          refine V_iload hC dX3_fast_204 rfl ?_
          refine V_i2l hC dX3_fast_206 ?_
          refine V_cko (fun hm => V_callV_V (c := 3) (As := [.long (Int32.toInt64 v4)]) (rest := []) (d' := 0) hC dX3_fast_207 1 (lw_V q1697 q1699 qs59 q87 q1700) (by decide +kernel) (List.mem_singleton.mp hm) (by decide) (by decide) rfl rfl rfl (Nat.le_of_ble_eq_true rfl) (Nat.le_trans (by decide) hd) (by decide) vMP_l (fun _ h => c_X3_enters (Nat.le_refl _) h) (fun σ_4 => ?_))
          refine V_iload_n hC dX3_fast_210 rfl ?_
          exact V_ireturn dX3_fast_211 rfl rfl
        · intro k_1 hk_1
          exact (w_X3_fast_64 hd a0 x1 σ_1 v2 k_1 hk_1) FU (-1) 0 0
      · intro k hk
        exact (w_X3_fast_30 hd a0 x1 σ_1 k hk) FU 0 0
    · refine V_iconst (v := (-1)) hC dX3_fast_24 rfl ?_
      exact V_ireturn dX3_fast_25 rfl rfl
theorem c_X3_fast {l : Launch} {d : Nat} (hd : 1 ≤ d) {σ : vMem} {a0 : Nat} {x1 : Int32} {r : Int32 × vMem} (h : f_X3_fast σ a0 x1 = some r) : vOk l yX3_fast cX3_fast 8 (some .int) d [.ref a0, .int x1] σ (.inl ((eI).1 r, (eI).2 r)) := V_method (em := eI) [some (.ref a0), some (.int x1), none, none, none, none, none, none] (by decide +kernel) rfl (Nat.le_of_ble_eq_true rfl) (w_X3_fast hd σ a0 x1) h
/-! NobodyBeenAftModel.seenIn(I)I -/
def f_X3_seenIn_4 (σ : vMem) (a0 : Nat) (x1 : Int32) : Nat → Int32 → Int32 → Option (Int32)
  | 0, _, _ => none
  | n + 1, v2, v3 => cko σ a0 [3] (if (gi σ a0 42) ≤ v3 then (some v2) else cko σ a0 [3] (dr (gr σ a0 43) (fun b => cka σ b 105 v3 (vl (fun (y : Int32) => vl (v3 + 1) (fun v3_1 => f_X3_seenIn_4 σ a0 x1 n y v3_1)) (fun k => if ¬ (gi σ b (Int32.toNatClampNeg v3)) = x1 then (k v2) else cko σ a0 [3] (dr (gr σ a0 44) (fun b_1 => cka σ b_1 105 v3 (k (gi σ b_1 (Int32.toNatClampNeg v3))))))))))
def f_X3_seenIn (σ : vMem) (a0 : Nat) (x1 : Int32) : Option (Int32) := f_X3_seenIn_4 σ a0 x1 FU (-1) 0
abbrev P_X3_seenIn (l : Launch) (d n0 s0 : Nat) : vX → Prop := vMP l yX3_seenIn cX3_seenIn 4 (some .int) d n0 s0
theorem w_X3_seenIn_4 {l : Launch} {d n0 s0 : Nat} (hd : 0 ≤ d) (σ : vMem) (a0 : Nat) (x1 : Int32)  : ∀ (n : Nat) (v2 : Int32) (v3 : Int32), V (P_X3_seenIn l d n0 s0) (vEmb (ePI σ)) σ 4 [some (.ref a0), some (.int x1), some (.int v2), some (.int v3)] [] (f_X3_seenIn_4 σ a0 x1 n v2 v3) := by
  have hC : vPx (P_X3_seenIn l d n0 s0) cX3_seenIn 4 "NobodyBeenAftModel" (some .int) d := vMP_cx
  intro n
  induction n with
  | zero =>
    intro v2 v3
    exact V_none
  | succ n ih =>
    intro v2 v3
    refine V_eq (f_X3_seenIn_4.eq_2 ..) ?_
    refine V_iload_n hC dX3_seenIn_4 rfl ?_
    refine V_aload_n hC dX3_seenIn_5 rfl ?_
    refine g_X3_415 hC dX3_seenIn_6 ?_
    refine V_icmp_ge (tgt := 39) hC dX3_seenIn_9 (by decide) ?_ ?_
    · refine V_iload_n hC dX3_seenIn_39 rfl ?_
      exact V_ireturn dX3_seenIn_40 rfl rfl
    · refine V_aload_n hC dX3_seenIn_12 rfl ?_
      refine g_X3_79 hC dX3_seenIn_13 (fun b => ?_)
      refine V_iload_n hC dX3_seenIn_16 rfl ?_
      refine V_iald hC dX3_seenIn_17 ?_
      refine V_iload_n hC dX3_seenIn_18 rfl ?_
      refine V_let (B := fun k => ∀ (y : Int32), V (P_X3_seenIn l d n0 s0) (vEmb (ePI σ)) σ 32 [some (.ref a0), some (.int x1), none, some (.int v3)] [.int y] (k y)) ?_ ?_
      · intro y
        refine V_istore_n (ls' := [some (.ref a0), some (.int x1), some (.int y), some (.int v3)]) hC dX3_seenIn_32 (by decide) rfl rfl ?_
        refine V_iincL (v := v3 + 1) (ls' := fun v3_1 => [some (.ref a0), some (.int x1), some (.int y), some (.int v3_1)]) hC dX3_seenIn_33 rfl (by decide) rfl rfl (fun _ => rfl) (fun v3_1 => ?_)
        refine V_goto (tgt := 4) hC dX3_seenIn_36 (by decide) ?_
        exact ih y v3_1
      · intro k hk
        refine V_icmp_ne (tgt := 31) hC dX3_seenIn_19 (by decide) ?_ ?_
        · refine V_iload_n hC dX3_seenIn_31 rfl ?_
          refine V_clr [2] (ls' := [some (.ref a0), some (.int x1), none, some (.int v3)]) rfl ?_
          exact hk v2
        · refine V_aload_n hC dX3_seenIn_22 rfl ?_
          refine g_X3_82 hC dX3_seenIn_23 (fun b_1 => ?_)
          refine V_iload_n hC dX3_seenIn_26 rfl ?_
          refine V_iald hC dX3_seenIn_27 ?_
          refine V_goto (tgt := 32) hC dX3_seenIn_28 (by decide) ?_
          refine V_clr [2] (ls' := [some (.ref a0), some (.int x1), none, some (.int v3)]) rfl ?_
          exact hk (gi σ b_1 (Int32.toNatClampNeg v3))
theorem w_X3_seenIn {l : Launch} {d n0 s0 : Nat} (hd : 0 ≤ d) (σ : vMem) (a0 : Nat) (x1 : Int32) : V (P_X3_seenIn l d n0 s0) (vEmb (ePI σ)) σ 0 [some (.ref a0), some (.int x1), none, none] [] (f_X3_seenIn σ a0 x1) := by
  have hC : vPx (P_X3_seenIn l d n0 s0) cX3_seenIn 4 "NobodyBeenAftModel" (some .int) d := vMP_cx
  refine V_eq (f_X3_seenIn.eq_1 ..) ?_
  refine V_iconst (v := (-1)) hC dX3_seenIn_0 rfl ?_
  refine V_istore_n (ls' := [some (.ref a0), some (.int x1), some (.int (-1)), none]) hC dX3_seenIn_1 (by decide) rfl rfl ?_
  refine V_iconst (v := 0) hC dX3_seenIn_2 rfl ?_
  refine V_istore_n (ls' := [some (.ref a0), some (.int x1), some (.int (-1)), some (.int 0)]) hC dX3_seenIn_3 (by decide) rfl rfl ?_
  exact (w_X3_seenIn_4 hd σ a0 x1) FU (-1) 0
theorem c_X3_seenIn {l : Launch} {d : Nat} (hd : 0 ≤ d) {σ : vMem} {a0 : Nat} {x1 : Int32} {r : Int32} (h : f_X3_seenIn σ a0 x1 = some r) : vOk l yX3_seenIn cX3_seenIn 4 (some .int) d [.ref a0, .int x1] σ (.inl (((ePI σ)).1 r, ((ePI σ)).2 r)) := V_method (em := (ePI σ)) [some (.ref a0), some (.int x1), none, none] (by decide +kernel) rfl (Nat.le_of_ble_eq_true rfl) (w_X3_seenIn hd σ a0 x1) h
/-! NobodyBeenAftModel.seen(II)I -/
def f_X3_seen (σ : vMem) (a0 : Nat) (x1 : Int32) (x2 : Int32) : Option (Int32 × vMem) := cko σ a0 [3] (vl (si σ a0 0 0) (fun σ_1 => bp (f_X3_in σ_1 (Int32.toInt64 x1) 0 24) (fun r => if r = 0 then (some ((-1), σ_1)) else bp (f_X3_in σ_1 (Int32.toInt64 x2) 0 8) (fun r_1 => if ¬ r_1 = 0 then (cko σ_1 a0 [3] (bp (f_X3_seenIn σ_1 a0 x1) (fun r_2 => if r_2 < 0 then (cko σ_1 a0 [3] (if ¬ (gi σ_1 a0 42) = 12 then (cko σ_1 a0 [3] (dr (gr σ_1 a0 43) (fun b => cko σ_1 a0 [3] (cka σ_1 b 105 (gi σ_1 a0 42) (vl (si σ_1 b (Int32.toNatClampNeg (gi σ_1 a0 42)) x1) (fun σ_2 => cko σ_2 a0 [3] (dr (gr σ_2 a0 44) (fun b_1 => cko σ_2 a0 [3] (cka σ_2 b_1 105 (gi σ_2 a0 42) (vl (si σ_2 b_1 (Int32.toNatClampNeg (gi σ_2 a0 42)) x2) (fun σ_3 => cko σ_3 a0 [3] (cko σ_3 a0 [3] (vl (si σ_3 a0 42 ((gi σ_3 a0 42) + 1)) (fun σ_4 => cko σ_4 a0 [3] (some ((gi σ_4 a0 42), σ_4)))))))))))))))) else some ((-1), σ_1))) else if ¬ r_2 = x2 then (some ((-2), σ_1)) else cko σ_1 a0 [3] (some ((gi σ_1 a0 42), σ_1))))) else some ((-1), σ_1)))))
abbrev P_X3_seen (l : Launch) (d n0 s0 : Nat) : vX → Prop := vMP l yX3_seen cX3_seen 4 (some .int) d n0 s0
theorem w_X3_seen {l : Launch} {d n0 s0 : Nat} (hd : 1 ≤ d) (σ : vMem) (a0 : Nat) (x1 : Int32) (x2 : Int32) : V (P_X3_seen l d n0 s0) (vEmb eI) σ 0 [some (.ref a0), some (.int x1), some (.int x2), none] [] (f_X3_seen σ a0 x1 x2) := by
  have hC : vPx (P_X3_seen l d n0 s0) cX3_seen 4 "NobodyBeenAftModel" (some .int) d := vMP_cx
  refine V_eq (f_X3_seen.eq_1 ..) ?_
  refine V_aload_n hC dX3_seen_0 rfl ?_
  refine V_iconst (v := 0) hC dX3_seen_1 rfl ?_
  refine p_X3_103 hC dX3_seen_2 (fun σ_1 => ?_)
  refine V_iload_n hC dX3_seen_5 rfl ?_
  refine V_i2l hC dX3_seen_6 ?_
  refine V_lconst (v := 0) hC dX3_seen_7 rfl ?_
  refine V_ldc2 hC dX3_seen_8 q1866 ?_
  refine V_callS_PI (As := [.long (Int32.toInt64 x1), .long 0, .long 24]) (rest := []) (d' := 0) hC dX3_seen_11 3 (lw_S q1448 q1449 q87 q1450) (by decide +kernel) rfl rfl (Nat.le_of_ble_eq_true rfl) (Nat.le_trans (by decide) hd) (by decide) vMP_l (fun _ h => c_X3_in (Nat.le_refl _) h) (fun r => ?_)
  refine V_if_eq (tgt := 29) hC dX3_seen_14 (by decide) ?_ ?_
  · refine V_iconst (v := (-1)) hC dX3_seen_29 rfl ?_
    exact V_ireturn dX3_seen_30 rfl rfl
  · refine V_iload_n hC dX3_seen_17 rfl ?_
    refine V_i2l hC dX3_seen_18 ?_
    refine V_lconst (v := 0) hC dX3_seen_19 rfl ?_
    refine V_ldc2 hC dX3_seen_20 q1867 ?_
    refine V_callS_PI (As := [.long (Int32.toInt64 x2), .long 0, .long 8]) (rest := []) (d' := 0) hC dX3_seen_23 3 (lw_S q1448 q1449 q87 q1450) (by decide +kernel) rfl rfl (Nat.le_of_ble_eq_true rfl) (Nat.le_trans (by decide) hd) (by decide) vMP_l (fun _ h => c_X3_in (Nat.le_refl _) h) (fun r_1 => ?_)
    refine V_if_ne (tgt := 31) hC dX3_seen_26 (by decide) ?_ ?_
    · refine V_aload_n hC dX3_seen_31 rfl ?_
      refine V_iload_n hC dX3_seen_32 rfl ?_
      refine V_cko (fun hm => V_callV_PI (c := 3) (As := [.int x1]) (rest := []) (d' := 0) hC dX3_seen_33 1 (lw_V q1868 q1870 qs78 q87 q1871) (by decide +kernel) (List.mem_singleton.mp hm) (by decide) (by decide) rfl rfl rfl (Nat.le_of_ble_eq_true rfl) (Nat.le_trans (by decide) hd) (by decide) vMP_l (fun _ h => c_X3_seenIn (Nat.le_refl _) h) (fun r_2 => ?_))
      refine V_istore_n (ls' := [some (.ref a0), some (.int x1), some (.int x2), some (.int r_2)]) hC dX3_seen_36 (by decide) rfl rfl ?_
      refine V_iload_n hC dX3_seen_37 rfl ?_
      refine V_if_lt (tgt := 56) hC dX3_seen_38 (by decide) ?_ ?_
      · refine V_aload_n hC dX3_seen_56 rfl ?_
        refine g_X3_415 hC dX3_seen_57 ?_
        refine V_bipush (v := 12) hC dX3_seen_60 rfl ?_
        refine V_icmp_ne (tgt := 67) hC dX3_seen_62 (by decide) ?_ ?_
        · refine V_aload_n hC dX3_seen_67 rfl ?_
          refine g_X3_79 hC dX3_seen_68 (fun b => ?_)
          refine V_aload_n hC dX3_seen_71 rfl ?_
          refine g_X3_415 hC dX3_seen_72 ?_
          refine V_iload_n hC dX3_seen_75 rfl ?_
          refine V_iast hC dX3_seen_76 (fun σ_2 => ?_)
          refine V_aload_n hC dX3_seen_77 rfl ?_
          refine g_X3_82 hC dX3_seen_78 (fun b_1 => ?_)
          refine V_aload_n hC dX3_seen_81 rfl ?_
          refine g_X3_415 hC dX3_seen_82 ?_
          refine V_iload_n hC dX3_seen_85 rfl ?_
          refine V_iast hC dX3_seen_86 (fun σ_3 => ?_)
          refine V_aload_n hC dX3_seen_87 rfl ?_
          refine V_dup hC dX3_seen_88 rfl ?_
          refine g_X3_415 hC dX3_seen_89 ?_
          refine V_iconst (v := 1) hC dX3_seen_92 rfl ?_
          refine V_iadd hC dX3_seen_93 ?_
          refine p_X3_415 hC dX3_seen_94 (fun σ_4 => ?_)
          refine V_aload_n hC dX3_seen_97 rfl ?_
          refine g_X3_415 hC dX3_seen_98 ?_
          exact V_ireturn dX3_seen_101 rfl rfl
        · refine V_iconst (v := (-1)) hC dX3_seen_65 rfl ?_
          exact V_ireturn dX3_seen_66 rfl rfl
      · refine V_iload_n hC dX3_seen_41 rfl ?_
        refine V_iload_n hC dX3_seen_42 rfl ?_
        refine V_icmp_ne (tgt := 53) hC dX3_seen_43 (by decide) ?_ ?_
        · refine V_bipush (v := (-2)) hC dX3_seen_53 rfl ?_
          exact V_ireturn dX3_seen_55 rfl rfl
        · refine V_aload_n hC dX3_seen_46 rfl ?_
          refine g_X3_415 hC dX3_seen_47 ?_
          refine V_goto (tgt := 55) hC dX3_seen_50 (by decide) ?_
          exact V_ireturn dX3_seen_55 rfl rfl
    · refine V_iconst (v := (-1)) hC dX3_seen_29 rfl ?_
      exact V_ireturn dX3_seen_30 rfl rfl
theorem c_X3_seen {l : Launch} {d : Nat} (hd : 1 ≤ d) {σ : vMem} {a0 : Nat} {x1 : Int32} {x2 : Int32} {r : Int32 × vMem} (h : f_X3_seen σ a0 x1 x2 = some r) : vOk l yX3_seen cX3_seen 4 (some .int) d [.ref a0, .int x1, .int x2] σ (.inl ((eI).1 r, (eI).2 r)) := V_method (em := eI) [some (.ref a0), some (.int x1), some (.int x2), none] (by decide +kernel) rfl (Nat.le_of_ble_eq_true rfl) (w_X3_seen hd σ a0 x1 x2) h
/-! NobodyBeenAftModel.forget()I -/
def f_X3_forget (σ : vMem) (a0 : Nat) : Option (Int32 × vMem) := cko σ a0 [3] (vl (si σ a0 0 0) (fun σ_1 => cko σ_1 a0 [3] (vl (gi σ_1 a0 42) (fun v1 => cko σ_1 a0 [3] (vl (si σ_1 a0 42 0) (fun σ_2 => some (v1, σ_2)))))))
abbrev P_X3_forget (l : Launch) (d n0 s0 : Nat) : vX → Prop := vMP l yX3_forget cX3_forget 2 (some .int) d n0 s0
theorem w_X3_forget {l : Launch} {d n0 s0 : Nat} (hd : 0 ≤ d) (σ : vMem) (a0 : Nat) : V (P_X3_forget l d n0 s0) (vEmb eI) σ 0 [some (.ref a0), none] [] (f_X3_forget σ a0) := by
  have hC : vPx (P_X3_forget l d n0 s0) cX3_forget 2 "NobodyBeenAftModel" (some .int) d := vMP_cx
  refine V_eq (f_X3_forget.eq_1 ..) ?_
  refine V_aload_n hC dX3_forget_0 rfl ?_
  refine V_iconst (v := 0) hC dX3_forget_1 rfl ?_
  refine p_X3_103 hC dX3_forget_2 (fun σ_1 => ?_)
  refine V_aload_n hC dX3_forget_5 rfl ?_
  refine g_X3_415 hC dX3_forget_6 ?_
  refine V_istore_nL (ls' := fun v1 => [some (.ref a0), some (.int v1)]) hC dX3_forget_9 (by decide) rfl (fun _ => rfl) (fun v1 => ?_)
  refine V_aload_n hC dX3_forget_10 rfl ?_
  refine V_iconst (v := 0) hC dX3_forget_11 rfl ?_
  refine p_X3_415 hC dX3_forget_12 (fun σ_2 => ?_)
  refine V_iload_n hC dX3_forget_15 rfl ?_
  exact V_ireturn dX3_forget_16 rfl rfl
theorem c_X3_forget {l : Launch} {d : Nat} (hd : 0 ≤ d) {σ : vMem} {a0 : Nat} {r : Int32 × vMem} (h : f_X3_forget σ a0 = some r) : vOk l yX3_forget cX3_forget 2 (some .int) d [.ref a0] σ (.inl ((eI).1 r, (eI).2 r)) := V_method (em := eI) [some (.ref a0), none] (by decide +kernel) rfl (Nat.le_of_ble_eq_true rfl) (w_X3_forget hd σ a0) h
/-! NobodyBeenAftModel.lastSeen()I -/
def f_X3_lastSeen_4 (σ : vMem) (a0 : Nat) : Nat → Int32 → Int32 → Option (Int32)
  | 0, _, _ => none
  | n + 1, v1, v2 => cko σ a0 [3] (if (gi σ a0 42) ≤ v2 then (some v1) else cko σ a0 [3] (dr (gr σ a0 43) (fun b => cka σ b 105 v2 (vl (imax v1 (gi σ b (Int32.toNatClampNeg v2))) (fun v1_1 => vl (v2 + 1) (fun v2_1 => f_X3_lastSeen_4 σ a0 n v1_1 v2_1))))))
def f_X3_lastSeen (σ : vMem) (a0 : Nat) : Option (Int32) := f_X3_lastSeen_4 σ a0 FU (-1) 0
abbrev P_X3_lastSeen (l : Launch) (d n0 s0 : Nat) : vX → Prop := vMP l yX3_lastSeen cX3_lastSeen 3 (some .int) d n0 s0
theorem w_X3_lastSeen_4 {l : Launch} {d n0 s0 : Nat} (hd : 0 ≤ d) (σ : vMem) (a0 : Nat)  : ∀ (n : Nat) (v1 : Int32) (v2 : Int32), V (P_X3_lastSeen l d n0 s0) (vEmb (ePI σ)) σ 4 [some (.ref a0), some (.int v1), some (.int v2)] [] (f_X3_lastSeen_4 σ a0 n v1 v2) := by
  have hC : vPx (P_X3_lastSeen l d n0 s0) cX3_lastSeen 3 "NobodyBeenAftModel" (some .int) d := vMP_cx
  intro n
  induction n with
  | zero =>
    intro v1 v2
    exact V_none
  | succ n ih =>
    intro v1 v2
    refine V_eq (f_X3_lastSeen_4.eq_2 ..) ?_
    refine V_iload_n hC dX3_lastSeen_4 rfl ?_
    refine V_aload_n hC dX3_lastSeen_5 rfl ?_
    refine g_X3_415 hC dX3_lastSeen_6 ?_
    refine V_icmp_ge (tgt := 29) hC dX3_lastSeen_9 (by decide) ?_ ?_
    · refine V_iload_n hC dX3_lastSeen_29 rfl ?_
      exact V_ireturn dX3_lastSeen_30 rfl rfl
    · refine V_iload_n hC dX3_lastSeen_12 rfl ?_
      refine V_aload_n hC dX3_lastSeen_13 rfl ?_
      refine g_X3_79 hC dX3_lastSeen_14 (fun b => ?_)
      refine V_iload_n hC dX3_lastSeen_17 rfl ?_
      refine V_iald hC dX3_lastSeen_18 ?_
      refine V_mmax hC dX3_lastSeen_19 q1612 q677 q90 q678 (Nat.le_of_ble_eq_true rfl) ?_
      refine V_istore_nL (ls' := fun v1_1 => [some (.ref a0), some (.int v1_1), some (.int v2)]) hC dX3_lastSeen_22 (by decide) rfl (fun _ => rfl) (fun v1_1 => ?_)
      refine V_iincL (v := v2 + 1) (ls' := fun v2_1 => [some (.ref a0), some (.int v1_1), some (.int v2_1)]) hC dX3_lastSeen_23 rfl (by decide) rfl rfl (fun _ => rfl) (fun v2_1 => ?_)
      refine V_goto (tgt := 4) hC dX3_lastSeen_26 (by decide) ?_
      exact ih v1_1 v2_1
theorem w_X3_lastSeen {l : Launch} {d n0 s0 : Nat} (hd : 0 ≤ d) (σ : vMem) (a0 : Nat) : V (P_X3_lastSeen l d n0 s0) (vEmb (ePI σ)) σ 0 [some (.ref a0), none, none] [] (f_X3_lastSeen σ a0) := by
  have hC : vPx (P_X3_lastSeen l d n0 s0) cX3_lastSeen 3 "NobodyBeenAftModel" (some .int) d := vMP_cx
  refine V_eq (f_X3_lastSeen.eq_1 ..) ?_
  refine V_iconst (v := (-1)) hC dX3_lastSeen_0 rfl ?_
  refine V_istore_n (ls' := [some (.ref a0), some (.int (-1)), none]) hC dX3_lastSeen_1 (by decide) rfl rfl ?_
  refine V_iconst (v := 0) hC dX3_lastSeen_2 rfl ?_
  refine V_istore_n (ls' := [some (.ref a0), some (.int (-1)), some (.int 0)]) hC dX3_lastSeen_3 (by decide) rfl rfl ?_
  exact (w_X3_lastSeen_4 hd σ a0) FU (-1) 0
theorem c_X3_lastSeen {l : Launch} {d : Nat} (hd : 0 ≤ d) {σ : vMem} {a0 : Nat} {r : Int32} (h : f_X3_lastSeen σ a0 = some r) : vOk l yX3_lastSeen cX3_lastSeen 3 (some .int) d [.ref a0] σ (.inl (((ePI σ)).1 r, ((ePI σ)).2 r)) := V_method (em := (ePI σ)) [some (.ref a0), none, none] (by decide +kernel) rfl (Nat.le_of_ble_eq_true rfl) (w_X3_lastSeen hd σ a0) h
/-! NobodyBeenAftModel.isFine(II)Z -/
def f_X3_isFine (σ : vMem) (a0 : Nat) (x1 : Int32) (x2 : Int32) : Option (Int32) := cko σ a0 [3] (bp (f_X3_seenIn σ a0 x1) (fun r => vl (some 0) (fun k => vl (vl (some 1) (fun k_2 => if 0 < x1 then k_2 else if ¬ x2 = 4 then k else k_2)) (fun k_1 => if r < 0 then k_1 else cko σ a0 [3] (bp (f_X3_seenIn σ a0 x1) (fun r_1 => if ¬ r_1 = x2 then k else k_1))))))
abbrev P_X3_isFine (l : Launch) (d n0 s0 : Nat) : vX → Prop := vMP l yX3_isFine cX3_isFine 3 (some .boolean) d n0 s0
theorem w_X3_isFine {l : Launch} {d n0 s0 : Nat} (hd : 1 ≤ d) (σ : vMem) (a0 : Nat) (x1 : Int32) (x2 : Int32) : V (P_X3_isFine l d n0 s0) (vEmb (ePI σ)) σ 0 [some (.ref a0), some (.int x1), some (.int x2)] [] (f_X3_isFine σ a0 x1 x2) := by
  have hC : vPx (P_X3_isFine l d n0 s0) cX3_isFine 3 "NobodyBeenAftModel" (some .boolean) d := vMP_cx
  refine V_eq (f_X3_isFine.eq_1 ..) ?_
  refine V_aload_n hC dX3_isFine_0 rfl ?_
  refine V_iload_n hC dX3_isFine_1 rfl ?_
  refine V_cko (fun hm => V_callV_PI (c := 3) (As := [.int x1]) (rest := []) (d' := 0) hC dX3_isFine_2 1 (lw_V q1868 q1870 qs78 q87 q1871) (by decide +kernel) (List.mem_singleton.mp hm) (by decide) (by decide) rfl rfl rfl (Nat.le_of_ble_eq_true rfl) (Nat.le_trans (by decide) hd) (by decide) vMP_l (fun _ h => c_X3_seenIn (Nat.le_refl _) h) (fun r => ?_))
  refine V_let (B := fun k => V (P_X3_isFine l d n0 s0) (vEmb (ePI σ)) σ 30 [none, none, none] [] (k)) ?_ ?_
  · skip
    refine V_iconst (v := 0) hC dX3_isFine_30 rfl ?_
    exact V_zreturn rfl dX3_isFine_31 rfl rfl
  · intro k hk
    refine V_let (B := fun k_1 => V (P_X3_isFine l d n0 s0) (vEmb (ePI σ)) σ 17 [none, some (.int x1), some (.int x2)] [] (k_1)) ?_ ?_
    · skip
      refine V_iload_n hC dX3_isFine_17 rfl ?_
      refine V_let (B := fun k_2 => V (P_X3_isFine l d n0 s0) (vEmb (ePI σ)) σ 26 [none, none, none] [] (k_2)) ?_ ?_
      · skip
        refine V_iconst (v := 1) hC dX3_isFine_26 rfl ?_
        refine V_goto (tgt := 31) hC dX3_isFine_27 (by decide) ?_
        exact V_zreturn rfl dX3_isFine_31 rfl rfl
      · intro k_2 hk_2
        refine V_if_gt (tgt := 26) hC dX3_isFine_18 (by decide) ?_ ?_
        · refine V_clr [1, 2] (ls' := [none, none, none]) rfl ?_
          exact hk_2
        · refine V_iload_n hC dX3_isFine_21 rfl ?_
          refine V_iconst (v := 4) hC dX3_isFine_22 rfl ?_
          refine V_icmp_ne (tgt := 30) hC dX3_isFine_23 (by decide) ?_ ?_
          · refine V_clr [1, 2] (ls' := [none, none, none]) rfl ?_
            exact hk
          · refine V_clr [1, 2] (ls' := [none, none, none]) rfl ?_
            exact hk_2
    · intro k_1 hk_1
      refine V_if_lt (tgt := 17) hC dX3_isFine_5 (by decide) ?_ ?_
      · refine V_clr [0] (ls' := [none, some (.int x1), some (.int x2)]) rfl ?_
        exact hk_1
      · refine V_aload_n hC dX3_isFine_8 rfl ?_
        refine V_iload_n hC dX3_isFine_9 rfl ?_
        refine V_cko (fun hm => V_callV_PI (c := 3) (As := [.int x1]) (rest := []) (d' := 0) hC dX3_isFine_10 1 (lw_V q1868 q1870 qs78 q87 q1871) (by decide +kernel) (List.mem_singleton.mp hm) (by decide) (by decide) rfl rfl rfl (Nat.le_of_ble_eq_true rfl) (Nat.le_trans (by decide) hd) (by decide) vMP_l (fun _ h => c_X3_seenIn (Nat.le_refl _) h) (fun r_1 => ?_))
        refine V_iload_n hC dX3_isFine_13 rfl ?_
        refine V_icmp_ne (tgt := 30) hC dX3_isFine_14 (by decide) ?_ ?_
        · refine V_clr [0, 1, 2] (ls' := [none, none, none]) rfl ?_
          exact hk
        · refine V_clr [0] (ls' := [none, some (.int x1), some (.int x2)]) rfl ?_
          exact hk_1
theorem c_X3_isFine {l : Launch} {d : Nat} (hd : 1 ≤ d) {σ : vMem} {a0 : Nat} {x1 : Int32} {x2 : Int32} {r : Int32} (h : f_X3_isFine σ a0 x1 x2 = some r) : vOk l yX3_isFine cX3_isFine 3 (some .boolean) d [.ref a0, .int x1, .int x2] σ (.inl (((ePI σ)).1 r, ((ePI σ)).2 r)) := V_method (em := (ePI σ)) [some (.ref a0), some (.int x1), some (.int x2)] (by decide +kernel) rfl (Nat.le_of_ble_eq_true rfl) (w_X3_isFine hd σ a0 x1 x2) h
/-! NobodyBeenAftModel.laysSeen(I)V -/
def f_X3_laysSeen_59 (a0 : Nat) (x1 : Int32) (v2 : Int32) (v3 : Int32) (v4 : Int32) (k_3 : vMem → Option (vMem)) : Nat → vMem → Int32 → Option (vMem)
  | 0, _, _ => none
  | n_2 + 1, σ_9, v5 => if 1 < v5 then (k_3 σ_9) else if x1 ≤ v2 then (k_3 σ_9) else cko σ_9 a0 [3] (dr (gr σ_9 a0 45) (fun b_6 => cka σ_9 b_6 105 v4 (cko σ_9 a0 [3] (dr (gr σ_9 a0 45) (fun b_7 => bp (f_X3_put σ_9 (v3 + v5)) (fun r_2 => cka σ_9 b_7 105 ((9 * (v2 + 1)) + r_2) (cka σ_9 b_6 105 v4 (vl (si σ_9 b_6 (Int32.toNatClampNeg v4) ((gi σ_9 b_6 (Int32.toNatClampNeg v4)) + (gi σ_9 b_7 (Int32.toNatClampNeg ((9 * (v2 + 1)) + r_2))))) (fun σ_10 => cko σ_10 a0 [3] (dr (gr σ_10 a0 46) (fun b_8 => cko σ_10 a0 [3] (dr (gr σ_10 a0 46) (fun b_9 => cka σ_10 b_9 101 v4 (vl (fun (y_4 : Int32) => cka σ_10 b_8 101 v4 (vl (si σ_10 b_8 (Int32.toNatClampNeg v4) (vp_nar .boolean y_4)) (fun σ_11 => vl (v5 + 1) (fun v5_1 => f_X3_laysSeen_59 a0 x1 v2 v3 v4 k_3 n_2 σ_11 v5_1)))) (fun k_7 => vl (k_7 1) (fun k_8 => if ¬ (gi σ_10 b_9 (Int32.toNatClampNeg v4)) = 0 then k_8 else cko σ_10 a0 [3] (dr (gr σ_10 a0 46) (fun b_10 => bp (f_X3_put σ_10 (v3 + v5)) (fun r_3 => cka σ_10 b_10 101 ((9 * (v2 + 1)) + r_3) (if (gi σ_10 b_10 (Int32.toNatClampNeg ((9 * (v2 + 1)) + r_3))) = 0 then (k_7 0) else k_8))))))))))))))))))))
def f_X3_laysSeen_8 (a0 : Nat) (x1 : Int32) (v2 : Int32) (k : vMem → Option (vMem)) : Nat → vMem → Int32 → Option (vMem)
  | 0, _, _ => none
  | n_1 + 1, σ_3, v3 => if 9 ≤ v3 then (k σ_3) else vl ((9 * v2) + v3) (fun v4 => cko σ_3 a0 [3] (dr (gr σ_3 a0 45) (fun b => vl (fun (y : Int32) => cka σ_3 b 105 v4 (vl (si σ_3 b (Int32.toNatClampNeg v4) y) (fun σ_4 => cko σ_4 a0 [3] (dr (gr σ_4 a0 46) (fun b_1 => vl (fun (y_1 : Int32) => cka σ_4 b_1 101 v4 (vl (si σ_4 b_1 (Int32.toNatClampNeg v4) (vp_nar .boolean y_1)) (fun σ_5 => vl (fun (σ_6 : vMem) => cko σ_6 a0 [3] (dr (gr σ_6 a0 45) (fun b_2 => cko σ_6 a0 [3] (bp (f_X3_isFine σ_6 a0 v2 v3) (fun r => vl (fun (y_2 : Int32) => cka σ_6 b_2 105 v4 (vl (si σ_6 b_2 (Int32.toNatClampNeg v4) y_2) (fun σ_7 => cko σ_7 a0 [3] (dr (gr σ_7 a0 46) (fun b_3 => cko σ_7 a0 [3] (dr (gr σ_7 a0 46) (fun b_4 => cka σ_7 b_4 101 v4 (vl (fun (y_3 : Int32) => cka σ_7 b_3 101 v4 (vl (si σ_7 b_3 (Int32.toNatClampNeg v4) (vp_nar .boolean y_3)) (fun σ_8 => vl (v3 + 1) (fun v3_1 => f_X3_laysSeen_8 a0 x1 v2 k n_1 σ_8 v3_1)))) (fun k_5 => vl (k_5 0) (fun k_6 => if (gi σ_7 b_4 (Int32.toNatClampNeg v4)) = 0 then k_6 else cko σ_7 a0 [3] (bp (f_X3_isFine σ_7 a0 v2 v3) (fun r_1 => if r_1 = 0 then k_6 else k_5 1)))))))))))) (fun k_4 => if r = 0 then (k_4 0) else cko σ_6 a0 [3] (dr (gr σ_6 a0 45) (fun b_5 => cka σ_6 b_5 105 v4 (k_4 (imin 1000000 (gi σ_6 b_5 (Int32.toNatClampNeg v4)))))))))))) (fun k_3 => f_X3_laysSeen_59 a0 x1 v2 v3 v4 k_3 FU σ_5 (-1))))) (fun k_2 => if ¬ v2 = x1 then (k_2 0) else k_2 1)))))) (fun k_1 => if ¬ v2 = x1 then (k_1 0) else k_1 1))))
def f_X3_laysSeen_2 (a0 : Nat) (x1 : Int32) : Nat → vMem → Int32 → Option (vMem)
  | 0, _, _ => none
  | n + 1, σ_1, v2 => if v2 < 0 then (some σ_1) else vl (fun (σ_2 : vMem) => vl (v2 + (-1)) (fun v2_1 => f_X3_laysSeen_2 a0 x1 n σ_2 v2_1)) (fun k => f_X3_laysSeen_8 a0 x1 v2 k FU σ_1 0)
def f_X3_laysSeen (σ : vMem) (a0 : Nat) (x1 : Int32) : Option (vMem) := f_X3_laysSeen_2 a0 x1 FU σ x1
abbrev P_X3_laysSeen (l : Launch) (d n0 s0 : Nat) : vX → Prop := vMP l yX3_laysSeen cX3_laysSeen 6 none d n0 s0
theorem w_X3_laysSeen_59 {l : Launch} {d n0 s0 : Nat} (hd : 2 ≤ d) (a0 : Nat) (x1 : Int32) (v2 : Int32) (v3 : Int32) (v4 : Int32) (k_3 : vMem → Option (vMem)) (hk_3 : ∀ (σ_6 : vMem), V (P_X3_laysSeen l d n0 s0) (vEmb eV) σ_6 149 [some (.ref a0), some (.int x1), some (.int v2), some (.int v3), some (.int v4), none] [] (k_3 σ_6)) : ∀ (n_2 : Nat) (σ_9 : vMem) (v5 : Int32), V (P_X3_laysSeen l d n0 s0) (vEmb eV) σ_9 59 [some (.ref a0), some (.int x1), some (.int v2), some (.int v3), some (.int v4), some (.int v5)] [] (f_X3_laysSeen_59 a0 x1 v2 v3 v4 k_3 n_2 σ_9 v5) := by
  have hC : vPx (P_X3_laysSeen l d n0 s0) cX3_laysSeen 6 "NobodyBeenAftModel" none d := vMP_cx
  intro n_2
  induction n_2 with
  | zero =>
    intro σ_9 v5
    exact V_none
  | succ n_2 ih =>
    intro σ_9 v5
    refine V_eq (f_X3_laysSeen_59.eq_2 ..) ?_
    refine V_iload hC dX3_laysSeen_59 rfl ?_
    refine V_iconst (v := 1) hC dX3_laysSeen_61 rfl ?_
    refine V_icmp_gt (tgt := 149) hC dX3_laysSeen_62 (by decide) ?_ ?_
    · refine V_clr [5] (ls' := [some (.ref a0), some (.int x1), some (.int v2), some (.int v3), some (.int v4), none]) rfl ?_
      exact hk_3 σ_9
    · refine V_iload_n hC dX3_laysSeen_65 rfl ?_
      refine V_iload_n hC dX3_laysSeen_66 rfl ?_
      refine V_icmp_ge (tgt := 149) hC dX3_laysSeen_67 (by decide) ?_ ?_
      · refine V_clr [5] (ls' := [some (.ref a0), some (.int x1), some (.int v2), some (.int v3), some (.int v4), none]) rfl ?_
        exact hk_3 σ_9
      · refine V_aload_n hC dX3_laysSeen_70 rfl ?_
        refine g_X3_85 hC dX3_laysSeen_71 (fun b_6 => ?_)
        refine V_iload hC dX3_laysSeen_74 rfl ?_
        refine V_dup2 hC dX3_laysSeen_76 rfl rfl ?_
        refine V_iald hC dX3_laysSeen_77 ?_
        refine V_aload_n hC dX3_laysSeen_78 rfl ?_
        refine g_X3_85 hC dX3_laysSeen_79 (fun b_7 => ?_)
        refine V_bipush (v := 9) hC dX3_laysSeen_82 rfl ?_
        refine V_iload_n hC dX3_laysSeen_84 rfl ?_
        refine V_iconst (v := 1) hC dX3_laysSeen_85 rfl ?_
        refine V_iadd hC dX3_laysSeen_86 ?_
        refine V_imul hC dX3_laysSeen_87 ?_
        refine V_iload_n hC dX3_laysSeen_88 rfl ?_
        refine V_iload hC dX3_laysSeen_89 rfl ?_
        refine V_iadd hC dX3_laysSeen_91 ?_
        refine V_callS_PI (As := [.int (v3 + v5)]) (rest := [.int (9 * (v2 + 1)), .ref b_7, .int (gi σ_9 b_6 (Int32.toNatClampNeg v4)), .int v4, .ref b_6]) (d' := 0) hC dX3_laysSeen_92 1 (lw_S q1690 q1691 q87 q1692) (by decide +kernel) rfl rfl (Nat.le_of_ble_eq_true rfl) (Nat.le_trans (by decide) hd) (by decide) vMP_l (fun _ h => c_X3_put (Nat.le_refl _) h) (fun r_2 => ?_)
        refine V_iadd hC dX3_laysSeen_95 ?_
        refine V_iald hC dX3_laysSeen_96 ?_
        refine V_iadd hC dX3_laysSeen_97 ?_
        refine V_iast hC dX3_laysSeen_98 (fun σ_10 => ?_)
        refine V_aload_n hC dX3_laysSeen_99 rfl ?_
        refine g_X3_88 hC dX3_laysSeen_100 (fun b_8 => ?_)
        refine V_iload hC dX3_laysSeen_103 rfl ?_
        refine V_aload_n hC dX3_laysSeen_105 rfl ?_
        refine g_X3_88 hC dX3_laysSeen_106 (fun b_9 => ?_)
        refine V_iload hC dX3_laysSeen_109 rfl ?_
        refine V_zald hC dX3_laysSeen_111 ?_
        refine V_let (B := fun k_7 => ∀ (y_4 : Int32), V (P_X3_laysSeen l d n0 s0) (vEmb eV) σ_10 142 [some (.ref a0), some (.int x1), some (.int v2), some (.int v3), some (.int v4), some (.int v5)] [.int y_4, .int v4, .ref b_8] (k_7 y_4)) ?_ ?_
        · intro y_4
          refine V_zast hC dX3_laysSeen_142 (fun σ_11 => ?_)
          refine V_iincL (v := v5 + 1) (ls' := fun v5_1 => [some (.ref a0), some (.int x1), some (.int v2), some (.int v3), some (.int v4), some (.int v5_1)]) hC dX3_laysSeen_143 rfl (by decide) rfl rfl (fun _ => rfl) (fun v5_1 => ?_)
          refine V_goto (tgt := 59) hC dX3_laysSeen_146 (by decide) ?_
          exact ih σ_11 v5_1
        · intro k_7 hk_7
          refine V_let (B := fun k_8 => V (P_X3_laysSeen l d n0 s0) (vEmb eV) σ_10 137 [some (.ref a0), some (.int x1), some (.int v2), some (.int v3), some (.int v4), some (.int v5)] [.int v4, .ref b_8] (k_8)) ?_ ?_
          · skip
            refine V_iconst (v := 1) hC dX3_laysSeen_137 rfl ?_
            refine V_goto (tgt := 142) hC dX3_laysSeen_138 (by decide) ?_
            exact hk_7 1
          · intro k_8 hk_8
            refine V_if_ne (tgt := 137) hC dX3_laysSeen_112 (by decide) ?_ ?_
            · exact hk_8
            · refine V_aload_n hC dX3_laysSeen_115 rfl ?_
              refine g_X3_88 hC dX3_laysSeen_116 (fun b_10 => ?_)
              refine V_bipush (v := 9) hC dX3_laysSeen_119 rfl ?_
              refine V_iload_n hC dX3_laysSeen_121 rfl ?_
              refine V_iconst (v := 1) hC dX3_laysSeen_122 rfl ?_
              refine V_iadd hC dX3_laysSeen_123 ?_
              refine V_imul hC dX3_laysSeen_124 ?_
              refine V_iload_n hC dX3_laysSeen_125 rfl ?_
              refine V_iload hC dX3_laysSeen_126 rfl ?_
              refine V_iadd hC dX3_laysSeen_128 ?_
              refine V_callS_PI (As := [.int (v3 + v5)]) (rest := [.int (9 * (v2 + 1)), .ref b_10, .int v4, .ref b_8]) (d' := 0) hC dX3_laysSeen_129 1 (lw_S q1690 q1691 q87 q1692) (by decide +kernel) rfl rfl (Nat.le_of_ble_eq_true rfl) (Nat.le_trans (by decide) hd) (by decide) vMP_l (fun _ h => c_X3_put (Nat.le_refl _) h) (fun r_3 => ?_)
              refine V_iadd hC dX3_laysSeen_132 ?_
              refine V_zald hC dX3_laysSeen_133 ?_
              refine V_if_eq (tgt := 141) hC dX3_laysSeen_134 (by decide) ?_ ?_
              · refine V_iconst (v := 0) hC dX3_laysSeen_141 rfl ?_
                exact hk_7 0
              · exact hk_8
theorem w_X3_laysSeen_8 {l : Launch} {d n0 s0 : Nat} (hd : 2 ≤ d) (a0 : Nat) (x1 : Int32) (v2 : Int32) (k : vMem → Option (vMem)) (hk : ∀ (σ_2 : vMem), V (P_X3_laysSeen l d n0 s0) (vEmb eV) σ_2 219 [some (.ref a0), some (.int x1), some (.int v2), none, none, none] [] (k σ_2)) : ∀ (n_1 : Nat) (σ_3 : vMem) (v3 : Int32), V (P_X3_laysSeen l d n0 s0) (vEmb eV) σ_3 8 [some (.ref a0), some (.int x1), some (.int v2), some (.int v3), none, none] [] (f_X3_laysSeen_8 a0 x1 v2 k n_1 σ_3 v3) := by
  have hC : vPx (P_X3_laysSeen l d n0 s0) cX3_laysSeen 6 "NobodyBeenAftModel" none d := vMP_cx
  intro n_1
  induction n_1 with
  | zero =>
    intro σ_3 v3
    exact V_none
  | succ n_1 ih =>
    intro σ_3 v3
    refine V_eq (f_X3_laysSeen_8.eq_2 ..) ?_
    refine V_iload_n hC dX3_laysSeen_8 rfl ?_
    refine V_bipush (v := 9) hC dX3_laysSeen_9 rfl ?_
    refine V_icmp_ge (tgt := 219) hC dX3_laysSeen_11 (by decide) ?_ ?_
    · refine V_clr [3] (ls' := [some (.ref a0), some (.int x1), some (.int v2), none, none, none]) rfl ?_
      exact hk σ_3
    · refine V_bipush (v := 9) hC dX3_laysSeen_14 rfl ?_
      refine V_iload_n hC dX3_laysSeen_16 rfl ?_
      refine V_imul hC dX3_laysSeen_17 ?_
      refine V_iload_n hC dX3_laysSeen_18 rfl ?_
      refine V_iadd hC dX3_laysSeen_19 ?_
      refine V_istoreL (ls' := fun v4 => [some (.ref a0), some (.int x1), some (.int v2), some (.int v3), some (.int v4), none]) hC dX3_laysSeen_20 (by decide) rfl (fun _ => rfl) (fun v4 => ?_)
      refine V_aload_n hC dX3_laysSeen_22 rfl ?_
      refine g_X3_85 hC dX3_laysSeen_23 (fun b => ?_)
      refine V_iload hC dX3_laysSeen_26 rfl ?_
      refine V_iload_n hC dX3_laysSeen_28 rfl ?_
      refine V_iload_n hC dX3_laysSeen_29 rfl ?_
      refine V_let (B := fun k_1 => ∀ (y : Int32), V (P_X3_laysSeen l d n0 s0) (vEmb eV) σ_3 38 [some (.ref a0), some (.int x1), some (.int v2), some (.int v3), some (.int v4), none] [.int y, .int v4, .ref b] (k_1 y)) ?_ ?_
      · intro y
        refine V_iast hC dX3_laysSeen_38 (fun σ_4 => ?_)
        refine V_aload_n hC dX3_laysSeen_39 rfl ?_
        refine g_X3_88 hC dX3_laysSeen_40 (fun b_1 => ?_)
        refine V_iload hC dX3_laysSeen_43 rfl ?_
        refine V_iload_n hC dX3_laysSeen_45 rfl ?_
        refine V_iload_n hC dX3_laysSeen_46 rfl ?_
        refine V_let (B := fun k_2 => ∀ (y_1 : Int32), V (P_X3_laysSeen l d n0 s0) (vEmb eV) σ_4 55 [some (.ref a0), some (.int x1), some (.int v2), some (.int v3), some (.int v4), none] [.int y_1, .int v4, .ref b_1] (k_2 y_1)) ?_ ?_
        · intro y_1
          refine V_zast hC dX3_laysSeen_55 (fun σ_5 => ?_)
          refine V_iconst (v := (-1)) hC dX3_laysSeen_56 rfl ?_
          refine V_istore (ls' := [some (.ref a0), some (.int x1), some (.int v2), some (.int v3), some (.int v4), some (.int (-1))]) hC dX3_laysSeen_57 (by decide) rfl rfl ?_
          refine V_let (B := fun k_3 => ∀ (σ_6 : vMem), V (P_X3_laysSeen l d n0 s0) (vEmb eV) σ_6 149 [some (.ref a0), some (.int x1), some (.int v2), some (.int v3), some (.int v4), none] [] (k_3 σ_6)) ?_ ?_
          · intro σ_6
            refine V_aload_n hC dX3_laysSeen_149 rfl ?_
            refine g_X3_85 hC dX3_laysSeen_150 (fun b_2 => ?_)
            refine V_iload hC dX3_laysSeen_153 rfl ?_
            refine V_aload_n hC dX3_laysSeen_155 rfl ?_
            refine V_iload_n hC dX3_laysSeen_156 rfl ?_
            refine V_iload_n hC dX3_laysSeen_157 rfl ?_
            refine V_cko (fun hm => V_callV_PI (c := 3) (As := [.int v2, .int v3]) (rest := [.int v4, .ref b_2]) (d' := 1) hC dX3_laysSeen_158 2 (lw_V q1888 q1890 qs81 q87 q1891) (by decide +kernel) (List.mem_singleton.mp hm) (by decide) (by decide) rfl rfl rfl (Nat.le_of_ble_eq_true rfl) (Nat.le_trans (by decide) hd) (by decide) vMP_l (fun _ h => c_X3_isFine (Nat.le_refl _) h) (fun r => ?_))
            refine V_let (B := fun k_4 => ∀ (y_2 : Int32), V (P_X3_laysSeen l d n0 s0) (vEmb eV) σ_6 181 [some (.ref a0), some (.int x1), some (.int v2), some (.int v3), some (.int v4), none] [.int y_2, .int v4, .ref b_2] (k_4 y_2)) ?_ ?_
            · intro y_2
              refine V_iast hC dX3_laysSeen_181 (fun σ_7 => ?_)
              refine V_aload_n hC dX3_laysSeen_182 rfl ?_
              refine g_X3_88 hC dX3_laysSeen_183 (fun b_3 => ?_)
              refine V_iload hC dX3_laysSeen_186 rfl ?_
              refine V_aload_n hC dX3_laysSeen_188 rfl ?_
              refine g_X3_88 hC dX3_laysSeen_189 (fun b_4 => ?_)
              refine V_iload hC dX3_laysSeen_192 rfl ?_
              refine V_zald hC dX3_laysSeen_194 ?_
              refine V_let (B := fun k_5 => ∀ (y_3 : Int32), V (P_X3_laysSeen l d n0 s0) (vEmb eV) σ_7 212 [some (.ref a0), some (.int x1), some (.int v2), some (.int v3), none, none] [.int y_3, .int v4, .ref b_3] (k_5 y_3)) ?_ ?_
              · intro y_3
                refine V_zast hC dX3_laysSeen_212 (fun σ_8 => ?_)
                refine V_iincL (v := v3 + 1) (ls' := fun v3_1 => [some (.ref a0), some (.int x1), some (.int v2), some (.int v3_1), none, none]) hC dX3_laysSeen_213 rfl (by decide) rfl rfl (fun _ => rfl) (fun v3_1 => ?_)
                refine V_goto (tgt := 8) hC dX3_laysSeen_216 (by decide) ?_
                exact ih σ_8 v3_1
              · intro k_5 hk_5
                refine V_let (B := fun k_6 => V (P_X3_laysSeen l d n0 s0) (vEmb eV) σ_7 211 [some (.ref a0), some (.int x1), some (.int v2), some (.int v3), none, none] [.int v4, .ref b_3] (k_6)) ?_ ?_
                · skip
                  refine V_iconst (v := 0) hC dX3_laysSeen_211 rfl ?_
                  exact hk_5 0
                · intro k_6 hk_6
                  refine V_if_eq (tgt := 211) hC dX3_laysSeen_195 (by decide) ?_ ?_
                  · refine V_clr [4] (ls' := [some (.ref a0), some (.int x1), some (.int v2), some (.int v3), none, none]) rfl ?_
                    exact hk_6
                  · refine V_aload_n hC dX3_laysSeen_198 rfl ?_
                    refine V_iload_n hC dX3_laysSeen_199 rfl ?_
                    refine V_iload_n hC dX3_laysSeen_200 rfl ?_
                    refine V_cko (fun hm => V_callV_PI (c := 3) (As := [.int v2, .int v3]) (rest := [.int v4, .ref b_3]) (d' := 1) hC dX3_laysSeen_201 2 (lw_V q1888 q1890 qs81 q87 q1891) (by decide +kernel) (List.mem_singleton.mp hm) (by decide) (by decide) rfl rfl rfl (Nat.le_of_ble_eq_true rfl) (Nat.le_trans (by decide) hd) (by decide) vMP_l (fun _ h => c_X3_isFine (Nat.le_refl _) h) (fun r_1 => ?_))
                    refine V_if_eq (tgt := 211) hC dX3_laysSeen_204 (by decide) ?_ ?_
                    · refine V_clr [4] (ls' := [some (.ref a0), some (.int x1), some (.int v2), some (.int v3), none, none]) rfl ?_
                      exact hk_6
                    · refine V_iconst (v := 1) hC dX3_laysSeen_207 rfl ?_
                      refine V_goto (tgt := 212) hC dX3_laysSeen_208 (by decide) ?_
                      refine V_clr [4] (ls' := [some (.ref a0), some (.int x1), some (.int v2), some (.int v3), none, none]) rfl ?_
                      exact hk_5 1
            · intro k_4 hk_4
              refine V_if_eq (tgt := 180) hC dX3_laysSeen_161 (by decide) ?_ ?_
              · refine V_iconst (v := 0) hC dX3_laysSeen_180 rfl ?_
                exact hk_4 0
              · refine V_ldcw hC dX3_laysSeen_164 q1853 ?_
                refine V_aload_n hC dX3_laysSeen_167 rfl ?_
                refine g_X3_85 hC dX3_laysSeen_168 (fun b_5 => ?_)
                refine V_iload hC dX3_laysSeen_171 rfl ?_
                refine V_iald hC dX3_laysSeen_173 ?_
                refine V_mmin hC dX3_laysSeen_174 q1459 q327 q90 q328 (Nat.le_of_ble_eq_true rfl) ?_
                refine V_goto (tgt := 181) hC dX3_laysSeen_177 (by decide) ?_
                exact hk_4 (imin 1000000 (gi σ_6 b_5 (Int32.toNatClampNeg v4)))
          · intro k_3 hk_3
            exact (w_X3_laysSeen_59 hd a0 x1 v2 v3 v4 k_3 hk_3) FU σ_5 (-1)
        · intro k_2 hk_2
          refine V_icmp_ne (tgt := 54) hC dX3_laysSeen_47 (by decide) ?_ ?_
          · refine V_iconst (v := 0) hC dX3_laysSeen_54 rfl ?_
            exact hk_2 0
          · refine V_iconst (v := 1) hC dX3_laysSeen_50 rfl ?_
            refine V_goto (tgt := 55) hC dX3_laysSeen_51 (by decide) ?_
            exact hk_2 1
      · intro k_1 hk_1
        refine V_icmp_ne (tgt := 37) hC dX3_laysSeen_30 (by decide) ?_ ?_
        · refine V_iconst (v := 0) hC dX3_laysSeen_37 rfl ?_
          exact hk_1 0
        · refine V_iconst (v := 1) hC dX3_laysSeen_33 rfl ?_
          refine V_goto (tgt := 38) hC dX3_laysSeen_34 (by decide) ?_
          exact hk_1 1
theorem w_X3_laysSeen_2 {l : Launch} {d n0 s0 : Nat} (hd : 2 ≤ d) (a0 : Nat) (x1 : Int32)  : ∀ (n : Nat) (σ_1 : vMem) (v2 : Int32), V (P_X3_laysSeen l d n0 s0) (vEmb eV) σ_1 2 [some (.ref a0), some (.int x1), some (.int v2), none, none, none] [] (f_X3_laysSeen_2 a0 x1 n σ_1 v2) := by
  have hC : vPx (P_X3_laysSeen l d n0 s0) cX3_laysSeen 6 "NobodyBeenAftModel" none d := vMP_cx
  intro n
  induction n with
  | zero =>
    intro σ_1 v2
    exact V_none
  | succ n ih =>
    intro σ_1 v2
    refine V_eq (f_X3_laysSeen_2.eq_2 ..) ?_
    refine V_iload_n hC dX3_laysSeen_2 rfl ?_
    refine V_if_lt (tgt := 225) hC dX3_laysSeen_3 (by decide) ?_ ?_
    · exact V_return dX3_laysSeen_225 rfl rfl
    · refine V_iconst (v := 0) hC dX3_laysSeen_6 rfl ?_
      refine V_istore_n (ls' := [some (.ref a0), some (.int x1), some (.int v2), some (.int 0), none, none]) hC dX3_laysSeen_7 (by decide) rfl rfl ?_
      refine V_let (B := fun k => ∀ (σ_2 : vMem), V (P_X3_laysSeen l d n0 s0) (vEmb eV) σ_2 219 [some (.ref a0), some (.int x1), some (.int v2), none, none, none] [] (k σ_2)) ?_ ?_
      · intro σ_2
        refine V_iincL (v := v2 + (-1)) (ls' := fun v2_1 => [some (.ref a0), some (.int x1), some (.int v2_1), none, none, none]) hC dX3_laysSeen_219 rfl (by decide) rfl rfl (fun _ => rfl) (fun v2_1 => ?_)
        refine V_goto (tgt := 2) hC dX3_laysSeen_222 (by decide) ?_
        exact ih σ_2 v2_1
      · intro k hk
        exact (w_X3_laysSeen_8 hd a0 x1 v2 k hk) FU σ_1 0
theorem w_X3_laysSeen {l : Launch} {d n0 s0 : Nat} (hd : 2 ≤ d) (σ : vMem) (a0 : Nat) (x1 : Int32) : V (P_X3_laysSeen l d n0 s0) (vEmb eV) σ 0 [some (.ref a0), some (.int x1), none, none, none, none] [] (f_X3_laysSeen σ a0 x1) := by
  have hC : vPx (P_X3_laysSeen l d n0 s0) cX3_laysSeen 6 "NobodyBeenAftModel" none d := vMP_cx
  refine V_eq (f_X3_laysSeen.eq_1 ..) ?_
  refine V_iload_n hC dX3_laysSeen_0 rfl ?_
  refine V_istore_n (ls' := [some (.ref a0), some (.int x1), some (.int x1), none, none, none]) hC dX3_laysSeen_1 (by decide) rfl rfl ?_
  exact (w_X3_laysSeen_2 hd a0 x1) FU σ x1
theorem c_X3_laysSeen {l : Launch} {d : Nat} (hd : 2 ≤ d) {σ : vMem} {a0 : Nat} {x1 : Int32} {r : vMem} (h : f_X3_laysSeen σ a0 x1 = some r) : vOk l yX3_laysSeen cX3_laysSeen 6 none d [.ref a0, .int x1] σ (.inl ((eV).1 r, (eV).2 r)) := V_method (em := eV) [some (.ref a0), some (.int x1), none, none, none, none] (by decide +kernel) rfl (Nat.le_of_ble_eq_true rfl) (w_X3_laysSeen hd σ a0 x1) h
/-! NobodyBeenAftModel.ordered()I -/
def f_X3_ordered_47 (a0 : Nat) (r : Int32) (σ_5 : vMem) (v2 : Int32) (v3 : Int32) (k_1 : Int32 → Option (Int32 × vMem)) : Nat → Int32 → Option (Int32 × vMem)
  | 0, _ => none
  | n_1 + 1, v4_1 => cko σ_5 a0 [3] (dr (gr σ_5 a0 46) (fun b_2 => bp (f_X3_put σ_5 (v2 + v4_1)) (fun r_2 => cka σ_5 b_2 101 ((9 * v3) + r_2) (if ¬ (gi σ_5 b_2 (Int32.toNatClampNeg ((9 * v3) + r_2))) = 0 then (k_1 v4_1) else vl (v4_1 + 1) (fun v4_2 => f_X3_ordered_47 a0 r σ_5 v2 v3 k_1 n_1 v4_2)))))
def f_X3_ordered_30 (a0 : Nat) (r : Int32) (k : vMem → Option (Int32 × vMem)) : Nat → vMem → Int32 → Int32 → Option (Int32 × vMem)
  | 0, _, _, _ => none
  | n + 1, σ_5, v2, v3 => if r < v3 then (k σ_5) else cko σ_5 a0 [3] (dr (gr σ_5 a0 46) (fun b_1 => cka σ_5 b_1 101 4 (if (gi σ_5 b_1 (Int32.toNatClampNeg 4)) = 0 then (k σ_5) else vl (fun (v4 : Int32) => cko σ_5 a0 [3] (bv (f_X3_enters σ_5 a0 (Int32.toInt64 v4)) (fun σ_6 => bp (f_X3_put σ_6 (v2 + v4)) (fun r_1 => vl (v3 + 1) (fun v3_1 => f_X3_ordered_30 a0 r k n σ_6 r_1 v3_1))))) (fun k_1 => f_X3_ordered_47 a0 r σ_5 v2 v3 k_1 FU (-1)))))
def f_X3_ordered (σ : vMem) (a0 : Nat) : Option (Int32 × vMem) := cko σ a0 [3] (vl (si σ a0 0 0) (fun σ_1 => cko σ_1 a0 [3] (bp (f_X3_lastSeen σ_1 a0) (fun r => if 0 ≤ r then (cko σ_1 a0 [3] (bv (f_X3_laysSeen σ_1 a0 r) (fun σ_2 => cko σ_2 a0 [3] (vl (si σ_2 a0 1 0) (fun σ_3 => vl (fun (σ_4 : vMem) => cko σ_4 a0 [3] (dr (gr σ_4 a0 45) (fun b => cka σ_4 b 105 4 (some ((gi σ_4 b (Int32.toNatClampNeg 4)), σ_4))))) (fun k => f_X3_ordered_30 a0 r k FU σ_3 4 1)))))) else some ((-1), σ_1)))))
abbrev P_X3_ordered (l : Launch) (d n0 s0 : Nat) : vX → Prop := vMP l yX3_ordered cX3_ordered 5 (some .int) d n0 s0
theorem w_X3_ordered_47 {l : Launch} {d n0 s0 : Nat} (hd : 3 ≤ d) (a0 : Nat) (r : Int32) (σ_5 : vMem) (v2 : Int32) (v3 : Int32) (k_1 : Int32 → Option (Int32 × vMem)) (hk_1 : ∀ (v4 : Int32), V (P_X3_ordered l d n0 s0) (vEmb eI) σ_5 73 [some (.ref a0), some (.int r), some (.int v2), some (.int v3), some (.int v4)] [] (k_1 v4)) : ∀ (n_1 : Nat) (v4_1 : Int32), V (P_X3_ordered l d n0 s0) (vEmb eI) σ_5 47 [some (.ref a0), some (.int r), some (.int v2), some (.int v3), some (.int v4_1)] [] (f_X3_ordered_47 a0 r σ_5 v2 v3 k_1 n_1 v4_1) := by
  have hC : vPx (P_X3_ordered l d n0 s0) cX3_ordered 5 "NobodyBeenAftModel" (some .int) d := vMP_cx
  intro n_1
  induction n_1 with
  | zero =>
    intro v4_1
    exact V_none
  | succ n_1 ih =>
    intro v4_1
    refine V_eq (f_X3_ordered_47.eq_2 ..) ?_
    refine V_aload_n hC dX3_ordered_47 rfl ?_
    refine g_X3_88 hC dX3_ordered_48 (fun b_2 => ?_)
    refine V_bipush (v := 9) hC dX3_ordered_51 rfl ?_
    refine V_iload_n hC dX3_ordered_53 rfl ?_
    refine V_imul hC dX3_ordered_54 ?_
    refine V_iload_n hC dX3_ordered_55 rfl ?_
    refine V_iload hC dX3_ordered_56 rfl ?_
    refine V_iadd hC dX3_ordered_58 ?_
    refine V_callS_PI (As := [.int (v2 + v4_1)]) (rest := [.int (9 * v3), .ref b_2]) (d' := 0) hC dX3_ordered_59 1 (lw_S q1690 q1691 q87 q1692) (by decide +kernel) rfl rfl (Nat.le_of_ble_eq_true rfl) (Nat.le_trans (by decide) hd) (by decide) vMP_l (fun _ h => c_X3_put (Nat.le_refl _) h) (fun r_2 => ?_)
    refine V_iadd hC dX3_ordered_62 ?_
    refine V_zald hC dX3_ordered_63 ?_
    refine V_if_ne (tgt := 73) hC dX3_ordered_64 (by decide) ?_ ?_
    · exact hk_1 v4_1
    · refine V_iincL (v := v4_1 + 1) (ls' := fun v4_2 => [some (.ref a0), some (.int r), some (.int v2), some (.int v3), some (.int v4_2)]) hC dX3_ordered_67 rfl (by decide) rfl rfl (fun _ => rfl) (fun v4_2 => ?_)
      refine V_goto (tgt := 47) hC dX3_ordered_70 (by decide) ?_
      exact ih v4_2
theorem w_X3_ordered_30 {l : Launch} {d n0 s0 : Nat} (hd : 3 ≤ d) (a0 : Nat) (r : Int32) (k : vMem → Option (Int32 × vMem)) (hk : ∀ (σ_4 : vMem), V (P_X3_ordered l d n0 s0) (vEmb eI) σ_4 94 [some (.ref a0), none, none, none, none] [] (k σ_4)) : ∀ (n : Nat) (σ_5 : vMem) (v2 : Int32) (v3 : Int32), V (P_X3_ordered l d n0 s0) (vEmb eI) σ_5 30 [some (.ref a0), some (.int r), some (.int v2), some (.int v3), none] [] (f_X3_ordered_30 a0 r k n σ_5 v2 v3) := by
  have hC : vPx (P_X3_ordered l d n0 s0) cX3_ordered 5 "NobodyBeenAftModel" (some .int) d := vMP_cx
  intro n
  induction n with
  | zero =>
    intro σ_5 v2 v3
    exact V_none
  | succ n ih =>
    intro σ_5 v2 v3
    refine V_eq (f_X3_ordered_30.eq_2 ..) ?_
    refine V_iload_n hC dX3_ordered_30 rfl ?_
    refine V_iload_n hC dX3_ordered_31 rfl ?_
    refine V_icmp_gt (tgt := 94) hC dX3_ordered_32 (by decide) ?_ ?_
    · refine V_clr [1, 2, 3] (ls' := [some (.ref a0), none, none, none, none]) rfl ?_
      exact hk σ_5
    · refine V_aload_n hC dX3_ordered_35 rfl ?_
      refine g_X3_88 hC dX3_ordered_36 (fun b_1 => ?_)
      refine V_iconst (v := 4) hC dX3_ordered_39 rfl ?_
      refine V_zald hC dX3_ordered_40 ?_
      refine V_if_eq (tgt := 94) hC dX3_ordered_41 (by decide) ?_ ?_
      · refine V_clr [1, 2, 3] (ls' := [some (.ref a0), none, none, none, none]) rfl ?_
        exact hk σ_5
      · refine V_iconst (v := (-1)) hC dX3_ordered_44 rfl ?_
        refine V_istore (ls' := [some (.ref a0), some (.int r), some (.int v2), some (.int v3), some (.int (-1))]) hC dX3_ordered_45 (by decide) rfl rfl ?_
        refine V_let (B := fun k_1 => ∀ (v4 : Int32), V (P_X3_ordered l d n0 s0) (vEmb eI) σ_5 73 [some (.ref a0), some (.int r), some (.int v2), some (.int v3), some (.int v4)] [] (k_1 v4)) ?_ ?_
        · intro v4
          refine V_aload_n hC dX3_ordered_73 rfl ?_
          refine V_iload hC dX3_ordered_74 rfl ?_
          refine V_i2l hC dX3_ordered_76 ?_
          refine V_cko (fun hm => V_callV_V (c := 3) (As := [.long (Int32.toInt64 v4)]) (rest := []) (d' := 0) hC dX3_ordered_77 1 (lw_V q1697 q1699 qs59 q87 q1700) (by decide +kernel) (List.mem_singleton.mp hm) (by decide) (by decide) rfl rfl rfl (Nat.le_of_ble_eq_true rfl) (Nat.le_trans (by decide) hd) (by decide) vMP_l (fun _ h => c_X3_enters (Nat.le_refl _) h) (fun σ_6 => ?_))
          refine V_iload_n hC dX3_ordered_80 rfl ?_
          refine V_iload hC dX3_ordered_81 rfl ?_
          refine V_iadd hC dX3_ordered_83 ?_
          refine V_callS_PI (As := [.int (v2 + v4)]) (rest := []) (d' := 0) hC dX3_ordered_84 1 (lw_S q1690 q1691 q87 q1692) (by decide +kernel) rfl rfl (Nat.le_of_ble_eq_true rfl) (Nat.le_trans (by decide) hd) (by decide) vMP_l (fun _ h => c_X3_put (Nat.le_refl _) h) (fun r_1 => ?_)
          refine V_istore_n (ls' := [some (.ref a0), some (.int r), some (.int r_1), some (.int v3), some (.int v4)]) hC dX3_ordered_87 (by decide) rfl rfl ?_
          refine V_iincL (v := v3 + 1) (ls' := fun v3_1 => [some (.ref a0), some (.int r), some (.int r_1), some (.int v3_1), some (.int v4)]) hC dX3_ordered_88 rfl (by decide) rfl rfl (fun _ => rfl) (fun v3_1 => ?_)
          refine V_goto (tgt := 30) hC dX3_ordered_91 (by decide) ?_
          refine V_clr [4] (ls' := [some (.ref a0), some (.int r), some (.int r_1), some (.int v3_1), none]) rfl ?_
          exact ih σ_6 r_1 v3_1
        · intro k_1 hk_1
          exact (w_X3_ordered_47 hd a0 r σ_5 v2 v3 k_1 hk_1) FU (-1)
theorem w_X3_ordered {l : Launch} {d n0 s0 : Nat} (hd : 3 ≤ d) (σ : vMem) (a0 : Nat) : V (P_X3_ordered l d n0 s0) (vEmb eI) σ 0 [some (.ref a0), none, none, none, none] [] (f_X3_ordered σ a0) := by
  have hC : vPx (P_X3_ordered l d n0 s0) cX3_ordered 5 "NobodyBeenAftModel" (some .int) d := vMP_cx
  refine V_eq (f_X3_ordered.eq_1 ..) ?_
  refine V_aload_n hC dX3_ordered_0 rfl ?_
  refine V_iconst (v := 0) hC dX3_ordered_1 rfl ?_
  refine p_X3_103 hC dX3_ordered_2 (fun σ_1 => ?_)
  refine V_aload_n hC dX3_ordered_5 rfl ?_
  refine V_cko (fun hm => V_callV_PI (c := 3) (As := []) (rest := []) (d' := 0) hC dX3_ordered_6 0 (lw_V q1880 q1882 qs79 q87 q1883) (by decide +kernel) (List.mem_singleton.mp hm) (by decide) (by decide) rfl rfl rfl (Nat.le_of_ble_eq_true rfl) (Nat.le_trans (by decide) hd) (by decide) vMP_l (fun _ h => c_X3_lastSeen (Nat.le_refl _) h) (fun r => ?_))
  refine V_istore_n (ls' := [some (.ref a0), some (.int r), none, none, none]) hC dX3_ordered_9 (by decide) rfl rfl ?_
  refine V_iload_n hC dX3_ordered_10 rfl ?_
  refine V_if_ge (tgt := 16) hC dX3_ordered_11 (by decide) ?_ ?_
  · refine V_aload_n hC dX3_ordered_16 rfl ?_
    refine V_iload_n hC dX3_ordered_17 rfl ?_
    refine V_cko (fun hm => V_callV_V (c := 3) (As := [.int r]) (rest := []) (d' := 2) hC dX3_ordered_18 1 (lw_V q1884 q1886 qs80 q87 q1887) (by decide +kernel) (List.mem_singleton.mp hm) (by decide) (by decide) rfl rfl rfl (Nat.le_of_ble_eq_true rfl) (Nat.le_trans (by decide) hd) (by decide) vMP_l (fun _ h => c_X3_laysSeen (Nat.le_refl _) h) (fun σ_2 => ?_))
    refine V_aload_n hC dX3_ordered_21 rfl ?_
    refine V_iconst (v := 0) hC dX3_ordered_22 rfl ?_
    refine p_X3_110 hC dX3_ordered_23 (fun σ_3 => ?_)
    refine V_iconst (v := 4) hC dX3_ordered_26 rfl ?_
    refine V_istore_n (ls' := [some (.ref a0), some (.int r), some (.int 4), none, none]) hC dX3_ordered_27 (by decide) rfl rfl ?_
    refine V_iconst (v := 1) hC dX3_ordered_28 rfl ?_
    refine V_istore_n (ls' := [some (.ref a0), some (.int r), some (.int 4), some (.int 1), none]) hC dX3_ordered_29 (by decide) rfl rfl ?_
    refine V_let (B := fun k => ∀ (σ_4 : vMem), V (P_X3_ordered l d n0 s0) (vEmb eI) σ_4 94 [some (.ref a0), none, none, none, none] [] (k σ_4)) ?_ ?_
    · intro σ_4
      refine V_aload_n hC dX3_ordered_94 rfl ?_
      refine g_X3_85 hC dX3_ordered_95 (fun b => ?_)
      refine V_iconst (v := 4) hC dX3_ordered_98 rfl ?_
      refine V_iald hC dX3_ordered_99 ?_
      exact V_ireturn dX3_ordered_100 rfl rfl
    · intro k hk
      exact (w_X3_ordered_30 hd a0 r k hk) FU σ_3 4 1
  · refine V_iconst (v := (-1)) hC dX3_ordered_14 rfl ?_
    exact V_ireturn dX3_ordered_15 rfl rfl
theorem c_X3_ordered {l : Launch} {d : Nat} (hd : 3 ≤ d) {σ : vMem} {a0 : Nat} {r : Int32 × vMem} (h : f_X3_ordered σ a0 = some r) : vOk l yX3_ordered cX3_ordered 5 (some .int) d [.ref a0] σ (.inl ((eI).1 r, (eI).2 r)) := V_method (em := eI) [some (.ref a0), none, none, none, none] (by decide +kernel) rfl (Nat.le_of_ble_eq_true rfl) (w_X3_ordered hd σ a0) h
/-! NobodyBeenAftModel.unsure()I -/
def f_X3_unsure_79 (a0 : Nat) (r : Int32) (v2_1 : Int32) (v3_1 : Int32) (v4 : Int32) (σ_8 : vMem) (v5_1 : Int32) (v6 : Int32) (k_4 : Int32 → Option (Int32 × vMem)) : Nat → Int32 → Int32 → Option (Int32 × vMem)
  | 0, _, _ => none
  | n_2 + 1, v7_1, v8 => if 9 ≤ v8 then (k_4 v7_1) else if v4 ≤ 0 then (k_4 v7_1) else vl (fun (y_3 : Int32) => vl (v8 + 1) (fun v8_1 => f_X3_unsure_79 a0 r v2_1 v3_1 v4 σ_8 v5_1 v6 k_4 n_2 y_3 v8_1)) (fun k_8 => vl (k_8 1) (fun k_9 => if ¬ v7_1 = 0 then k_9 else cko σ_8 a0 [3] (dr (gr σ_8 a0 47) (fun b_4 => cka σ_8 b_4 101 ((9 * (v4 - 1)) + v8) (vl (k_8 0) (fun k_10 => if (gi σ_8 b_4 (Int32.toNatClampNeg ((9 * (v4 - 1)) + v8))) = 0 then k_10 else bp (f_X3_put σ_8 (v8 - 1)) (fun r_3 => if r_3 = v6 then k_9 else if v8 = v6 then k_9 else bp (f_X3_put σ_8 (v8 + 1)) (fun r_4 => if ¬ r_4 = v6 then k_10 else k_9))))))))
def f_X3_unsure_51 (a0 : Nat) (r : Int32) (v2_1 : Int32) (v3_1 : Int32) (v4 : Int32) (k_1 : vMem → Int32 → Option (Int32 × vMem)) : Nat → vMem → Int32 → Int32 → Option (Int32 × vMem)
  | 0, _, _, _ => none
  | n_1 + 1, σ_8, v5_1, v6 => if 9 ≤ v6 then (k_1 σ_8 v5_1) else vl (fun (y : Int32) => vl (fun (v7 : Int32) => cko σ_8 a0 [3] (dr (gr σ_8 a0 47) (fun b_1 => vl (fun (y_1 : Int32) => cka σ_8 b_1 101 ((9 * v4) + v6) (vl (si σ_8 b_1 (Int32.toNatClampNeg ((9 * v4) + v6)) (vp_nar .boolean y_1)) (fun σ_9 => cko σ_9 a0 [3] (dr (gr σ_9 a0 47) (fun b_2 => cka σ_9 b_2 101 ((9 * v4) + v6) (vl (fun (y_2 : Int32) => vl (v5_1 ||| y_2) (fun v5_2 => vl (v6 + 1) (fun v6_1 => f_X3_unsure_51 a0 r v2_1 v3_1 v4 k_1 n_1 σ_9 v5_2 v6_1))) (fun k_6 => if (gi σ_9 b_2 (Int32.toNatClampNeg ((9 * v4) + v6))) = 0 then (k_6 0) else k_6 (1 <<< (v6 &&& 31))))))))) (fun k_5 => vl (k_5 0) (fun k_7 => if v7 = 0 then k_7 else cko σ_8 a0 [3] (dr (gr σ_8 a0 46) (fun b_3 => cka σ_8 b_3 101 ((9 * v4) + v6) (if (gi σ_8 b_3 (Int32.toNatClampNeg ((9 * v4) + v6))) = 0 then k_7 else k_5 1)))))))) (fun k_4 => f_X3_unsure_79 a0 r v2_1 v3_1 v4 σ_8 v5_1 v6 k_4 FU y 0)) (fun k_3 => vl (k_3 0) (fun k_11 => if ¬ v4 = 0 then k_11 else if ¬ v6 = 4 then k_11 else k_3 1))
def f_X3_unsure_30 (a0 : Nat) (r : Int32) (k : vMem → Int32 → Int32 → Option (Int32 × vMem)) : Nat → vMem → Int32 → Int32 → Int32 → Option (Int32 × vMem)
  | 0, _, _, _, _ => none
  | n + 1, σ_6, v2_1, v3_1, v4 => if r < v4 then (k σ_6 v2_1 v3_1) else cko σ_6 a0 [3] (dr (gr σ_6 a0 46) (fun b => cka σ_6 b 101 4 (if (gi σ_6 b (Int32.toNatClampNeg 4)) = 0 then (k σ_6 v2_1 v3_1) else vl (fun (σ_7 : vMem) (v5 : Int32) => bp (f_J7_bitCount σ_7 v5) (fun r_1 => bp (f_J7_bitCount σ_7 v3_1) (fun r_2 => vl (fun (v2_2 : Int32) (v3_2 : Int32) => vl (v4 + 1) (fun v4_1 => f_X3_unsure_30 a0 r k n σ_7 v2_2 v3_2 v4_1)) (fun k_2 => if r_1 ≤ r_2 then (k_2 v2_1 v3_1) else k_2 v4 v5)))) (fun k_1 => f_X3_unsure_51 a0 r v2_1 v3_1 v4 k_1 FU σ_6 0 0))))
def f_X3_unsure (σ : vMem) (a0 : Nat) : Option (Int32 × vMem) := cko σ a0 [3] (vl (si σ a0 0 0) (fun σ_1 => cko σ_1 a0 [3] (bp (f_X3_lastSeen σ_1 a0) (fun r => if 0 ≤ r then (cko σ_1 a0 [3] (bv (f_X3_laysSeen σ_1 a0 r) (fun σ_2 => vl (fun (σ_3 : vMem) (v2 : Int32) (v3 : Int32) => if 0 ≤ v2 then (cko σ_3 a0 [3] (vl (si σ_3 a0 1 0) (fun σ_4 => cko σ_4 a0 [3] (bv (f_X3_enters σ_4 a0 (Int32.toInt64 v3)) (fun σ_5 => some (v2, σ_5)))))) else some ((-2), σ_3)) (fun k => f_X3_unsure_30 a0 r k FU σ_2 (-2) 0 0)))) else some ((-2), σ_1)))))
abbrev P_X3_unsure (l : Launch) (d n0 s0 : Nat) : vX → Prop := vMP l yX3_unsure cX3_unsure 9 (some .int) d n0 s0
theorem w_X3_unsure_79 {l : Launch} {d n0 s0 : Nat} (hd : 3 ≤ d) (a0 : Nat) (r : Int32) (v2_1 : Int32) (v3_1 : Int32) (v4 : Int32) (σ_8 : vMem) (v5_1 : Int32) (v6 : Int32) (k_4 : Int32 → Option (Int32 × vMem)) (hk_4 : ∀ (v7 : Int32), V (P_X3_unsure l d n0 s0) (vEmb eI) σ_8 158 [some (.ref a0), some (.int r), some (.int v2_1), some (.int v3_1), some (.int v4), some (.int v5_1), some (.int v6), some (.int v7), none] [] (k_4 v7)) : ∀ (n_2 : Nat) (v7_1 : Int32) (v8 : Int32), V (P_X3_unsure l d n0 s0) (vEmb eI) σ_8 79 [some (.ref a0), some (.int r), some (.int v2_1), some (.int v3_1), some (.int v4), some (.int v5_1), some (.int v6), some (.int v7_1), some (.int v8)] [] (f_X3_unsure_79 a0 r v2_1 v3_1 v4 σ_8 v5_1 v6 k_4 n_2 v7_1 v8) := by
  have hC : vPx (P_X3_unsure l d n0 s0) cX3_unsure 9 "NobodyBeenAftModel" (some .int) d := vMP_cx
  intro n_2
  induction n_2 with
  | zero =>
    intro v7_1 v8
    exact V_none
  | succ n_2 ih =>
    intro v7_1 v8
    refine V_eq (f_X3_unsure_79.eq_2 ..) ?_
    refine V_iload hC dX3_unsure_79 rfl ?_
    refine V_bipush (v := 9) hC dX3_unsure_81 rfl ?_
    refine V_icmp_ge (tgt := 158) hC dX3_unsure_83 (by decide) ?_ ?_
    · refine V_clr [8] (ls' := [some (.ref a0), some (.int r), some (.int v2_1), some (.int v3_1), some (.int v4), some (.int v5_1), some (.int v6), some (.int v7_1), none]) rfl ?_
      exact hk_4 v7_1
    · refine V_iload hC dX3_unsure_86 rfl ?_
      refine V_if_le (tgt := 158) hC dX3_unsure_88 (by decide) ?_ ?_
      · refine V_clr [8] (ls' := [some (.ref a0), some (.int r), some (.int v2_1), some (.int v3_1), some (.int v4), some (.int v5_1), some (.int v6), some (.int v7_1), none]) rfl ?_
        exact hk_4 v7_1
      · refine V_iload hC dX3_unsure_91 rfl ?_
        refine V_let (B := fun k_8 => ∀ (y_3 : Int32), V (P_X3_unsure l d n0 s0) (vEmb eI) σ_8 150 [some (.ref a0), some (.int r), some (.int v2_1), some (.int v3_1), some (.int v4), some (.int v5_1), some (.int v6), none, some (.int v8)] [.int y_3] (k_8 y_3)) ?_ ?_
        · intro y_3
          refine V_istore (ls' := [some (.ref a0), some (.int r), some (.int v2_1), some (.int v3_1), some (.int v4), some (.int v5_1), some (.int v6), some (.int y_3), some (.int v8)]) hC dX3_unsure_150 (by decide) rfl rfl ?_
          refine V_iincL (v := v8 + 1) (ls' := fun v8_1 => [some (.ref a0), some (.int r), some (.int v2_1), some (.int v3_1), some (.int v4), some (.int v5_1), some (.int v6), some (.int y_3), some (.int v8_1)]) hC dX3_unsure_152 rfl (by decide) rfl rfl (fun _ => rfl) (fun v8_1 => ?_)
          refine V_goto (tgt := 79) hC dX3_unsure_155 (by decide) ?_
          exact ih y_3 v8_1
        · intro k_8 hk_8
          refine V_let (B := fun k_9 => V (P_X3_unsure l d n0 s0) (vEmb eI) σ_8 145 [some (.ref a0), some (.int r), some (.int v2_1), some (.int v3_1), some (.int v4), some (.int v5_1), some (.int v6), none, some (.int v8)] [] (k_9)) ?_ ?_
          · skip
            refine V_iconst (v := 1) hC dX3_unsure_145 rfl ?_
            refine V_goto (tgt := 150) hC dX3_unsure_146 (by decide) ?_
            exact hk_8 1
          · intro k_9 hk_9
            refine V_if_ne (tgt := 145) hC dX3_unsure_93 (by decide) ?_ ?_
            · refine V_clr [7] (ls' := [some (.ref a0), some (.int r), some (.int v2_1), some (.int v3_1), some (.int v4), some (.int v5_1), some (.int v6), none, some (.int v8)]) rfl ?_
              exact hk_9
            · refine V_aload_n hC dX3_unsure_96 rfl ?_
              refine g_X3_91 hC dX3_unsure_97 (fun b_4 => ?_)
              refine V_bipush (v := 9) hC dX3_unsure_100 rfl ?_
              refine V_iload hC dX3_unsure_102 rfl ?_
              refine V_iconst (v := 1) hC dX3_unsure_104 rfl ?_
              refine V_isub hC dX3_unsure_105 ?_
              refine V_imul hC dX3_unsure_106 ?_
              refine V_iload hC dX3_unsure_107 rfl ?_
              refine V_iadd hC dX3_unsure_109 ?_
              refine V_zald hC dX3_unsure_110 ?_
              refine V_let (B := fun k_10 => V (P_X3_unsure l d n0 s0) (vEmb eI) σ_8 149 [some (.ref a0), some (.int r), some (.int v2_1), some (.int v3_1), some (.int v4), some (.int v5_1), some (.int v6), none, some (.int v8)] [] (k_10)) ?_ ?_
              · skip
                refine V_iconst (v := 0) hC dX3_unsure_149 rfl ?_
                exact hk_8 0
              · intro k_10 hk_10
                refine V_if_eq (tgt := 149) hC dX3_unsure_111 (by decide) ?_ ?_
                · refine V_clr [7] (ls' := [some (.ref a0), some (.int r), some (.int v2_1), some (.int v3_1), some (.int v4), some (.int v5_1), some (.int v6), none, some (.int v8)]) rfl ?_
                  exact hk_10
                · refine V_iload hC dX3_unsure_114 rfl ?_
                  refine V_iconst (v := 1) hC dX3_unsure_116 rfl ?_
                  refine V_isub hC dX3_unsure_117 ?_
                  refine V_callS_PI (As := [.int (v8 - 1)]) (rest := []) (d' := 0) hC dX3_unsure_118 1 (lw_S q1690 q1691 q87 q1692) (by decide +kernel) rfl rfl (Nat.le_of_ble_eq_true rfl) (Nat.le_trans (by decide) hd) (by decide) vMP_l (fun _ h => c_X3_put (Nat.le_refl _) h) (fun r_3 => ?_)
                  refine V_iload hC dX3_unsure_121 rfl ?_
                  refine V_icmp_eq (tgt := 145) hC dX3_unsure_123 (by decide) ?_ ?_
                  · refine V_clr [7] (ls' := [some (.ref a0), some (.int r), some (.int v2_1), some (.int v3_1), some (.int v4), some (.int v5_1), some (.int v6), none, some (.int v8)]) rfl ?_
                    exact hk_9
                  · refine V_iload hC dX3_unsure_126 rfl ?_
                    refine V_iload hC dX3_unsure_128 rfl ?_
                    refine V_icmp_eq (tgt := 145) hC dX3_unsure_130 (by decide) ?_ ?_
                    · refine V_clr [7] (ls' := [some (.ref a0), some (.int r), some (.int v2_1), some (.int v3_1), some (.int v4), some (.int v5_1), some (.int v6), none, some (.int v8)]) rfl ?_
                      exact hk_9
                    · refine V_iload hC dX3_unsure_133 rfl ?_
                      refine V_iconst (v := 1) hC dX3_unsure_135 rfl ?_
                      refine V_iadd hC dX3_unsure_136 ?_
                      refine V_callS_PI (As := [.int (v8 + 1)]) (rest := []) (d' := 0) hC dX3_unsure_137 1 (lw_S q1690 q1691 q87 q1692) (by decide +kernel) rfl rfl (Nat.le_of_ble_eq_true rfl) (Nat.le_trans (by decide) hd) (by decide) vMP_l (fun _ h => c_X3_put (Nat.le_refl _) h) (fun r_4 => ?_)
                      refine V_iload hC dX3_unsure_140 rfl ?_
                      refine V_icmp_ne (tgt := 149) hC dX3_unsure_142 (by decide) ?_ ?_
                      · refine V_clr [7] (ls' := [some (.ref a0), some (.int r), some (.int v2_1), some (.int v3_1), some (.int v4), some (.int v5_1), some (.int v6), none, some (.int v8)]) rfl ?_
                        exact hk_10
                      · refine V_clr [7] (ls' := [some (.ref a0), some (.int r), some (.int v2_1), some (.int v3_1), some (.int v4), some (.int v5_1), some (.int v6), none, some (.int v8)]) rfl ?_
                        exact hk_9
theorem w_X3_unsure_51 {l : Launch} {d n0 s0 : Nat} (hd : 3 ≤ d) (a0 : Nat) (r : Int32) (v2_1 : Int32) (v3_1 : Int32) (v4 : Int32) (k_1 : vMem → Int32 → Option (Int32 × vMem)) (hk_1 : ∀ (σ_7 : vMem), ∀ (v5 : Int32), V (P_X3_unsure l d n0 s0) (vEmb eI) σ_7 232 [some (.ref a0), some (.int r), some (.int v2_1), some (.int v3_1), some (.int v4), some (.int v5), none, none, none] [] (k_1 σ_7 v5)) : ∀ (n_1 : Nat) (σ_8 : vMem) (v5_1 : Int32) (v6 : Int32), V (P_X3_unsure l d n0 s0) (vEmb eI) σ_8 51 [some (.ref a0), some (.int r), some (.int v2_1), some (.int v3_1), some (.int v4), some (.int v5_1), some (.int v6), none, none] [] (f_X3_unsure_51 a0 r v2_1 v3_1 v4 k_1 n_1 σ_8 v5_1 v6) := by
  have hC : vPx (P_X3_unsure l d n0 s0) cX3_unsure 9 "NobodyBeenAftModel" (some .int) d := vMP_cx
  intro n_1
  induction n_1 with
  | zero =>
    intro σ_8 v5_1 v6
    exact V_none
  | succ n_1 ih =>
    intro σ_8 v5_1 v6
    refine V_eq (f_X3_unsure_51.eq_2 ..) ?_
    refine V_iload hC dX3_unsure_51 rfl ?_
    refine V_bipush (v := 9) hC dX3_unsure_53 rfl ?_
    refine V_icmp_ge (tgt := 232) hC dX3_unsure_55 (by decide) ?_ ?_
    · refine V_clr [6] (ls' := [some (.ref a0), some (.int r), some (.int v2_1), some (.int v3_1), some (.int v4), some (.int v5_1), none, none, none]) rfl ?_
      exact hk_1 σ_8 v5_1
    · refine V_iload hC dX3_unsure_58 rfl ?_
      refine V_let (B := fun k_3 => ∀ (y : Int32), V (P_X3_unsure l d n0 s0) (vEmb eI) σ_8 74 [some (.ref a0), some (.int r), some (.int v2_1), some (.int v3_1), some (.int v4), some (.int v5_1), some (.int v6), none, none] [.int y] (k_3 y)) ?_ ?_
      · intro y
        refine V_istore (ls' := [some (.ref a0), some (.int r), some (.int v2_1), some (.int v3_1), some (.int v4), some (.int v5_1), some (.int v6), some (.int y), none]) hC dX3_unsure_74 (by decide) rfl rfl ?_
        refine V_iconst (v := 0) hC dX3_unsure_76 rfl ?_
        refine V_istore (ls' := [some (.ref a0), some (.int r), some (.int v2_1), some (.int v3_1), some (.int v4), some (.int v5_1), some (.int v6), some (.int y), some (.int 0)]) hC dX3_unsure_77 (by decide) rfl rfl ?_
        refine V_let (B := fun k_4 => ∀ (v7 : Int32), V (P_X3_unsure l d n0 s0) (vEmb eI) σ_8 158 [some (.ref a0), some (.int r), some (.int v2_1), some (.int v3_1), some (.int v4), some (.int v5_1), some (.int v6), some (.int v7), none] [] (k_4 v7)) ?_ ?_
        · intro v7
          refine V_aload_n hC dX3_unsure_158 rfl ?_
          refine g_X3_91 hC dX3_unsure_159 (fun b_1 => ?_)
          refine V_bipush (v := 9) hC dX3_unsure_162 rfl ?_
          refine V_iload hC dX3_unsure_164 rfl ?_
          refine V_imul hC dX3_unsure_166 ?_
          refine V_iload hC dX3_unsure_167 rfl ?_
          refine V_iadd hC dX3_unsure_169 ?_
          refine V_iload hC dX3_unsure_170 rfl ?_
          refine V_let (B := fun k_5 => ∀ (y_1 : Int32), V (P_X3_unsure l d n0 s0) (vEmb eI) σ_8 196 [some (.ref a0), some (.int r), some (.int v2_1), some (.int v3_1), some (.int v4), some (.int v5_1), some (.int v6), none, none] [.int y_1, .int ((9 * v4) + v6), .ref b_1] (k_5 y_1)) ?_ ?_
          · intro y_1
            refine V_zast hC dX3_unsure_196 (fun σ_9 => ?_)
            refine V_iload hC dX3_unsure_197 rfl ?_
            refine V_aload_n hC dX3_unsure_199 rfl ?_
            refine g_X3_91 hC dX3_unsure_200 (fun b_2 => ?_)
            refine V_bipush (v := 9) hC dX3_unsure_203 rfl ?_
            refine V_iload hC dX3_unsure_205 rfl ?_
            refine V_imul hC dX3_unsure_207 ?_
            refine V_iload hC dX3_unsure_208 rfl ?_
            refine V_iadd hC dX3_unsure_210 ?_
            refine V_zald hC dX3_unsure_211 ?_
            refine V_let (B := fun k_6 => ∀ (y_2 : Int32), V (P_X3_unsure l d n0 s0) (vEmb eI) σ_9 223 [some (.ref a0), some (.int r), some (.int v2_1), some (.int v3_1), some (.int v4), none, some (.int v6), none, none] [.int y_2, .int v5_1] (k_6 y_2)) ?_ ?_
            · intro y_2
              refine V_ior hC dX3_unsure_223 ?_
              refine V_istoreL (ls' := fun v5_2 => [some (.ref a0), some (.int r), some (.int v2_1), some (.int v3_1), some (.int v4), some (.int v5_2), some (.int v6), none, none]) hC dX3_unsure_224 (by decide) rfl (fun _ => rfl) (fun v5_2 => ?_)
              refine V_iincL (v := v6 + 1) (ls' := fun v6_1 => [some (.ref a0), some (.int r), some (.int v2_1), some (.int v3_1), some (.int v4), some (.int v5_2), some (.int v6_1), none, none]) hC dX3_unsure_226 rfl (by decide) rfl rfl (fun _ => rfl) (fun v6_1 => ?_)
              refine V_goto (tgt := 51) hC dX3_unsure_229 (by decide) ?_
              exact ih σ_9 v5_2 v6_1
            · intro k_6 hk_6
              refine V_if_eq (tgt := 222) hC dX3_unsure_212 (by decide) ?_ ?_
              · refine V_iconst (v := 0) hC dX3_unsure_222 rfl ?_
                refine V_clr [5] (ls' := [some (.ref a0), some (.int r), some (.int v2_1), some (.int v3_1), some (.int v4), none, some (.int v6), none, none]) rfl ?_
                exact hk_6 0
              · refine V_iconst (v := 1) hC dX3_unsure_215 rfl ?_
                refine V_iload hC dX3_unsure_216 rfl ?_
                refine V_ishl hC dX3_unsure_218 ?_
                refine V_goto (tgt := 223) hC dX3_unsure_219 (by decide) ?_
                refine V_clr [5] (ls' := [some (.ref a0), some (.int r), some (.int v2_1), some (.int v3_1), some (.int v4), none, some (.int v6), none, none]) rfl ?_
                exact hk_6 (1 <<< (v6 &&& 31))
          · intro k_5 hk_5
            refine V_let (B := fun k_7 => V (P_X3_unsure l d n0 s0) (vEmb eI) σ_8 195 [some (.ref a0), some (.int r), some (.int v2_1), some (.int v3_1), some (.int v4), some (.int v5_1), some (.int v6), none, none] [.int ((9 * v4) + v6), .ref b_1] (k_7)) ?_ ?_
            · skip
              refine V_iconst (v := 0) hC dX3_unsure_195 rfl ?_
              exact hk_5 0
            · intro k_7 hk_7
              refine V_if_eq (tgt := 195) hC dX3_unsure_172 (by decide) ?_ ?_
              · refine V_clr [7] (ls' := [some (.ref a0), some (.int r), some (.int v2_1), some (.int v3_1), some (.int v4), some (.int v5_1), some (.int v6), none, none]) rfl ?_
                exact hk_7
              · refine V_aload_n hC dX3_unsure_175 rfl ?_
                refine g_X3_88 hC dX3_unsure_176 (fun b_3 => ?_)
                refine V_bipush (v := 9) hC dX3_unsure_179 rfl ?_
                refine V_iload hC dX3_unsure_181 rfl ?_
                refine V_imul hC dX3_unsure_183 ?_
                refine V_iload hC dX3_unsure_184 rfl ?_
                refine V_iadd hC dX3_unsure_186 ?_
                refine V_zald hC dX3_unsure_187 ?_
                refine V_if_eq (tgt := 195) hC dX3_unsure_188 (by decide) ?_ ?_
                · refine V_clr [7] (ls' := [some (.ref a0), some (.int r), some (.int v2_1), some (.int v3_1), some (.int v4), some (.int v5_1), some (.int v6), none, none]) rfl ?_
                  exact hk_7
                · refine V_iconst (v := 1) hC dX3_unsure_191 rfl ?_
                  refine V_goto (tgt := 196) hC dX3_unsure_192 (by decide) ?_
                  refine V_clr [7] (ls' := [some (.ref a0), some (.int r), some (.int v2_1), some (.int v3_1), some (.int v4), some (.int v5_1), some (.int v6), none, none]) rfl ?_
                  exact hk_5 1
        · intro k_4 hk_4
          exact (w_X3_unsure_79 hd a0 r v2_1 v3_1 v4 σ_8 v5_1 v6 k_4 hk_4) FU y 0
      · intro k_3 hk_3
        refine V_let (B := fun k_11 => V (P_X3_unsure l d n0 s0) (vEmb eI) σ_8 73 [some (.ref a0), some (.int r), some (.int v2_1), some (.int v3_1), some (.int v4), some (.int v5_1), some (.int v6), none, none] [] (k_11)) ?_ ?_
        · skip
          refine V_iconst (v := 0) hC dX3_unsure_73 rfl ?_
          exact hk_3 0
        · intro k_11 hk_11
          refine V_if_ne (tgt := 73) hC dX3_unsure_60 (by decide) ?_ ?_
          · exact hk_11
          · refine V_iload hC dX3_unsure_63 rfl ?_
            refine V_iconst (v := 4) hC dX3_unsure_65 rfl ?_
            refine V_icmp_ne (tgt := 73) hC dX3_unsure_66 (by decide) ?_ ?_
            · exact hk_11
            · refine V_iconst (v := 1) hC dX3_unsure_69 rfl ?_
              refine V_goto (tgt := 74) hC dX3_unsure_70 (by decide) ?_
              exact hk_3 1
theorem w_X3_unsure_30 {l : Launch} {d n0 s0 : Nat} (hd : 3 ≤ d) (a0 : Nat) (r : Int32) (k : vMem → Int32 → Int32 → Option (Int32 × vMem)) (hk : ∀ (σ_3 : vMem), ∀ (v2 : Int32), ∀ (v3 : Int32), V (P_X3_unsure l d n0 s0) (vEmb eI) σ_3 256 [some (.ref a0), none, some (.int v2), some (.int v3), none, none, none, none, none] [] (k σ_3 v2 v3)) : ∀ (n : Nat) (σ_6 : vMem) (v2_1 : Int32) (v3_1 : Int32) (v4 : Int32), V (P_X3_unsure l d n0 s0) (vEmb eI) σ_6 30 [some (.ref a0), some (.int r), some (.int v2_1), some (.int v3_1), some (.int v4), none, none, none, none] [] (f_X3_unsure_30 a0 r k n σ_6 v2_1 v3_1 v4) := by
  have hC : vPx (P_X3_unsure l d n0 s0) cX3_unsure 9 "NobodyBeenAftModel" (some .int) d := vMP_cx
  intro n
  induction n with
  | zero =>
    intro σ_6 v2_1 v3_1 v4
    exact V_none
  | succ n ih =>
    intro σ_6 v2_1 v3_1 v4
    refine V_eq (f_X3_unsure_30.eq_2 ..) ?_
    refine V_iload hC dX3_unsure_30 rfl ?_
    refine V_iload_n hC dX3_unsure_32 rfl ?_
    refine V_icmp_gt (tgt := 256) hC dX3_unsure_33 (by decide) ?_ ?_
    · refine V_clr [1, 4] (ls' := [some (.ref a0), none, some (.int v2_1), some (.int v3_1), none, none, none, none, none]) rfl ?_
      exact hk σ_6 v2_1 v3_1
    · refine V_aload_n hC dX3_unsure_36 rfl ?_
      refine g_X3_88 hC dX3_unsure_37 (fun b => ?_)
      refine V_iconst (v := 4) hC dX3_unsure_40 rfl ?_
      refine V_zald hC dX3_unsure_41 ?_
      refine V_if_eq (tgt := 256) hC dX3_unsure_42 (by decide) ?_ ?_
      · refine V_clr [1, 4] (ls' := [some (.ref a0), none, some (.int v2_1), some (.int v3_1), none, none, none, none, none]) rfl ?_
        exact hk σ_6 v2_1 v3_1
      · refine V_iconst (v := 0) hC dX3_unsure_45 rfl ?_
        refine V_istore (ls' := [some (.ref a0), some (.int r), some (.int v2_1), some (.int v3_1), some (.int v4), some (.int 0), none, none, none]) hC dX3_unsure_46 (by decide) rfl rfl ?_
        refine V_iconst (v := 0) hC dX3_unsure_48 rfl ?_
        refine V_istore (ls' := [some (.ref a0), some (.int r), some (.int v2_1), some (.int v3_1), some (.int v4), some (.int 0), some (.int 0), none, none]) hC dX3_unsure_49 (by decide) rfl rfl ?_
        refine V_let (B := fun k_1 => ∀ (σ_7 : vMem), ∀ (v5 : Int32), V (P_X3_unsure l d n0 s0) (vEmb eI) σ_7 232 [some (.ref a0), some (.int r), some (.int v2_1), some (.int v3_1), some (.int v4), some (.int v5), none, none, none] [] (k_1 σ_7 v5)) ?_ ?_
        · intro σ_7 v5
          refine V_iload hC dX3_unsure_232 rfl ?_
          refine V_callS_PI (As := [.int v5]) (rest := []) (d' := 0) hC dX3_unsure_234 1 (lw_S q1777 q624 q103 q625) (by decide +kernel) rfl rfl (Nat.le_of_ble_eq_true rfl) (Nat.le_trans (by decide) hd) (by decide) vMP_l (fun _ h => c_J7_bitCount (Nat.le_refl _) h) (fun r_1 => ?_)
          refine V_iload_n hC dX3_unsure_237 rfl ?_
          refine V_callS_PI (As := [.int v3_1]) (rest := [.int r_1]) (d' := 0) hC dX3_unsure_238 1 (lw_S q1777 q624 q103 q625) (by decide +kernel) rfl rfl (Nat.le_of_ble_eq_true rfl) (Nat.le_trans (by decide) hd) (by decide) vMP_l (fun _ h => c_J7_bitCount (Nat.le_refl _) h) (fun r_2 => ?_)
          refine V_let (B := fun k_2 => ∀ (v2_2 : Int32), ∀ (v3_2 : Int32), V (P_X3_unsure l d n0 s0) (vEmb eI) σ_7 250 [some (.ref a0), some (.int r), some (.int v2_2), some (.int v3_2), some (.int v4), none, none, none, none] [] (k_2 v2_2 v3_2)) ?_ ?_
          · intro v2_2 v3_2
            refine V_iincL (v := v4 + 1) (ls' := fun v4_1 => [some (.ref a0), some (.int r), some (.int v2_2), some (.int v3_2), some (.int v4_1), none, none, none, none]) hC dX3_unsure_250 rfl (by decide) rfl rfl (fun _ => rfl) (fun v4_1 => ?_)
            refine V_goto (tgt := 30) hC dX3_unsure_253 (by decide) ?_
            exact ih σ_7 v2_2 v3_2 v4_1
          · intro k_2 hk_2
            refine V_icmp_le (tgt := 250) hC dX3_unsure_241 (by decide) ?_ ?_
            · refine V_clr [5] (ls' := [some (.ref a0), some (.int r), some (.int v2_1), some (.int v3_1), some (.int v4), none, none, none, none]) rfl ?_
              exact hk_2 v2_1 v3_1
            · refine V_iload hC dX3_unsure_244 rfl ?_
              refine V_istore_n (ls' := [some (.ref a0), some (.int r), some (.int v4), some (.int v3_1), some (.int v4), some (.int v5), none, none, none]) hC dX3_unsure_246 (by decide) rfl rfl ?_
              refine V_iload hC dX3_unsure_247 rfl ?_
              refine V_istore_n (ls' := [some (.ref a0), some (.int r), some (.int v4), some (.int v5), some (.int v4), some (.int v5), none, none, none]) hC dX3_unsure_249 (by decide) rfl rfl ?_
              refine V_clr [5] (ls' := [some (.ref a0), some (.int r), some (.int v4), some (.int v5), some (.int v4), none, none, none, none]) rfl ?_
              exact hk_2 v4 v5
        · intro k_1 hk_1
          exact (w_X3_unsure_51 hd a0 r v2_1 v3_1 v4 k_1 hk_1) FU σ_6 0 0
theorem w_X3_unsure {l : Launch} {d n0 s0 : Nat} (hd : 3 ≤ d) (σ : vMem) (a0 : Nat) : V (P_X3_unsure l d n0 s0) (vEmb eI) σ 0 [some (.ref a0), none, none, none, none, none, none, none, none] [] (f_X3_unsure σ a0) := by
  have hC : vPx (P_X3_unsure l d n0 s0) cX3_unsure 9 "NobodyBeenAftModel" (some .int) d := vMP_cx
  refine V_eq (f_X3_unsure.eq_1 ..) ?_
  refine V_aload_n hC dX3_unsure_0 rfl ?_
  refine V_iconst (v := 0) hC dX3_unsure_1 rfl ?_
  refine p_X3_103 hC dX3_unsure_2 (fun σ_1 => ?_)
  refine V_aload_n hC dX3_unsure_5 rfl ?_
  refine V_cko (fun hm => V_callV_PI (c := 3) (As := []) (rest := []) (d' := 0) hC dX3_unsure_6 0 (lw_V q1880 q1882 qs79 q87 q1883) (by decide +kernel) (List.mem_singleton.mp hm) (by decide) (by decide) rfl rfl rfl (Nat.le_of_ble_eq_true rfl) (Nat.le_trans (by decide) hd) (by decide) vMP_l (fun _ h => c_X3_lastSeen (Nat.le_refl _) h) (fun r => ?_))
  refine V_istore_n (ls' := [some (.ref a0), some (.int r), none, none, none, none, none, none, none]) hC dX3_unsure_9 (by decide) rfl rfl ?_
  refine V_iload_n hC dX3_unsure_10 rfl ?_
  refine V_if_ge (tgt := 17) hC dX3_unsure_11 (by decide) ?_ ?_
  · refine V_aload_n hC dX3_unsure_17 rfl ?_
    refine V_iload_n hC dX3_unsure_18 rfl ?_
    refine V_cko (fun hm => V_callV_V (c := 3) (As := [.int r]) (rest := []) (d' := 2) hC dX3_unsure_19 1 (lw_V q1884 q1886 qs80 q87 q1887) (by decide +kernel) (List.mem_singleton.mp hm) (by decide) (by decide) rfl rfl rfl (Nat.le_of_ble_eq_true rfl) (Nat.le_trans (by decide) hd) (by decide) vMP_l (fun _ h => c_X3_laysSeen (Nat.le_refl _) h) (fun σ_2 => ?_))
    refine V_bipush (v := (-2)) hC dX3_unsure_22 rfl ?_
    refine V_istore_n (ls' := [some (.ref a0), some (.int r), some (.int (-2)), none, none, none, none, none, none]) hC dX3_unsure_24 (by decide) rfl rfl ?_
    refine V_iconst (v := 0) hC dX3_unsure_25 rfl ?_
    refine V_istore_n (ls' := [some (.ref a0), some (.int r), some (.int (-2)), some (.int 0), none, none, none, none, none]) hC dX3_unsure_26 (by decide) rfl rfl ?_
    refine V_iconst (v := 0) hC dX3_unsure_27 rfl ?_
    refine V_istore (ls' := [some (.ref a0), some (.int r), some (.int (-2)), some (.int 0), some (.int 0), none, none, none, none]) hC dX3_unsure_28 (by decide) rfl rfl ?_
    refine V_let (B := fun k => ∀ (σ_3 : vMem), ∀ (v2 : Int32), ∀ (v3 : Int32), V (P_X3_unsure l d n0 s0) (vEmb eI) σ_3 256 [some (.ref a0), none, some (.int v2), some (.int v3), none, none, none, none, none] [] (k σ_3 v2 v3)) ?_ ?_
    · intro σ_3 v2 v3
      refine V_iload_n hC dX3_unsure_256 rfl ?_
      refine V_if_ge (tgt := 263) hC dX3_unsure_257 (by decide) ?_ ?_
      · refine V_aload_n hC dX3_unsure_263 rfl ?_
        refine V_iconst (v := 0) hC dX3_unsure_264 rfl ?_
        refine p_X3_110 hC dX3_unsure_265 (fun σ_4 => ?_)
        refine V_aload_n hC dX3_unsure_268 rfl ?_
        refine V_iload_n hC dX3_unsure_269 rfl ?_
        refine V_i2l hC dX3_unsure_270 ?_
        refine V_cko (fun hm => V_callV_V (c := 3) (As := [.long (Int32.toInt64 v3)]) (rest := []) (d' := 0) hC dX3_unsure_271 1 (lw_V q1697 q1699 qs59 q87 q1700) (by decide +kernel) (List.mem_singleton.mp hm) (by decide) (by decide) rfl rfl rfl (Nat.le_of_ble_eq_true rfl) (Nat.le_trans (by decide) hd) (by decide) vMP_l (fun _ h => c_X3_enters (Nat.le_refl _) h) (fun σ_5 => ?_))
        refine V_iload_n hC dX3_unsure_274 rfl ?_
        exact V_ireturn dX3_unsure_275 rfl rfl
      · refine V_bipush (v := (-2)) hC dX3_unsure_260 rfl ?_
        exact V_ireturn dX3_unsure_262 rfl rfl
    · intro k hk
      exact (w_X3_unsure_30 hd a0 r k hk) FU σ_2 (-2) 0 0
  · refine V_bipush (v := (-2)) hC dX3_unsure_14 rfl ?_
    exact V_ireturn dX3_unsure_16 rfl rfl
theorem c_X3_unsure {l : Launch} {d : Nat} (hd : 3 ≤ d) {σ : vMem} {a0 : Nat} {r : Int32 × vMem} (h : f_X3_unsure σ a0 = some r) : vOk l yX3_unsure cX3_unsure 9 (some .int) d [.ref a0] σ (.inl ((eI).1 r, (eI).2 r)) := V_method (em := eI) [some (.ref a0), none, none, none, none, none, none, none, none] (by decide +kernel) rfl (Nat.le_of_ble_eq_true rfl) (w_X3_unsure hd σ a0) h
/-! NobodyBeenAftModel.canRest(I)Z -/
def f_X3_canRest (σ : vMem) (x0 : Int32) : Option (Int32) := bp (f_X3_in σ (Int32.toInt64 x0) 2 9) (fun r => ck (narrow .boolean (.int r) = .int r) (some r))
abbrev P_X3_canRest (l : Launch) (d n0 s0 : Nat) : vX → Prop := vMP l yX3_canRest cX3_canRest 1 (some .boolean) d n0 s0
theorem w_X3_canRest {l : Launch} {d n0 s0 : Nat} (hd : 1 ≤ d) (σ : vMem) (x0 : Int32) : V (P_X3_canRest l d n0 s0) (vEmb (ePI σ)) σ 0 [some (.int x0)] [] (f_X3_canRest σ x0) := by
  have hC : vPx (P_X3_canRest l d n0 s0) cX3_canRest 1 "NobodyBeenAftModel" (some .boolean) d := vMP_cx
  refine V_eq (f_X3_canRest.eq_1 ..) ?_
  refine V_iload_n hC dX3_canRest_0 rfl ?_
  refine V_i2l hC dX3_canRest_1 ?_
  refine V_ldc2 hC dX3_canRest_2 q1598 ?_
  refine V_ldc2 hC dX3_canRest_5 q1904 ?_
  refine V_callS_PI (As := [.long (Int32.toInt64 x0), .long 2, .long 9]) (rest := []) (d' := 0) hC dX3_canRest_8 3 (lw_S q1448 q1449 q87 q1450) (by decide +kernel) rfl rfl (Nat.le_of_ble_eq_true rfl) (Nat.le_trans (by decide) hd) (by decide) vMP_l (fun _ h => c_X3_in (Nat.le_refl _) h) (fun r => ?_)
  exact V_ck (fun h9 => V_zreturn h9 dX3_canRest_11 rfl rfl)
theorem c_X3_canRest {l : Launch} {d : Nat} (hd : 1 ≤ d) {σ : vMem} {x0 : Int32} {r : Int32} (h : f_X3_canRest σ x0 = some r) : vOk l yX3_canRest cX3_canRest 1 (some .boolean) d [.int x0] σ (.inl (((ePI σ)).1 r, ((ePI σ)).2 r)) := V_method (em := (ePI σ)) [some (.int x0)] (by decide +kernel) rfl (Nat.le_of_ble_eq_true rfl) (w_X3_canRest hd σ x0) h
/-! NobodyBeenAftModel.boyBegins(II)V -/
def f_X3_boyBegins (σ : vMem) (a0 : Nat) (x1 : Int32) (x2 : Int32) : Option (vMem) := cko σ a0 [3] (vl (si σ a0 48 x1) (fun σ_1 => cko σ_1 a0 [3] (vl (si σ_1 a0 49 x2) (fun σ_2 => some σ_2))))
abbrev P_X3_boyBegins (l : Launch) (d n0 s0 : Nat) : vX → Prop := vMP l yX3_boyBegins cX3_boyBegins 3 none d n0 s0
theorem w_X3_boyBegins {l : Launch} {d n0 s0 : Nat} (hd : 0 ≤ d) (σ : vMem) (a0 : Nat) (x1 : Int32) (x2 : Int32) : V (P_X3_boyBegins l d n0 s0) (vEmb eV) σ 0 [some (.ref a0), some (.int x1), some (.int x2)] [] (f_X3_boyBegins σ a0 x1 x2) := by
  have hC : vPx (P_X3_boyBegins l d n0 s0) cX3_boyBegins 3 "NobodyBeenAftModel" none d := vMP_cx
  refine V_eq (f_X3_boyBegins.eq_1 ..) ?_
  refine V_aload_n hC dX3_boyBegins_0 rfl ?_
  refine V_iload_n hC dX3_boyBegins_1 rfl ?_
  refine p_X3_434 hC dX3_boyBegins_2 (fun σ_1 => ?_)
  refine V_aload_n hC dX3_boyBegins_5 rfl ?_
  refine V_iload_n hC dX3_boyBegins_6 rfl ?_
  refine p_X3_437 hC dX3_boyBegins_7 (fun σ_2 => ?_)
  exact V_return dX3_boyBegins_10 rfl rfl
theorem c_X3_boyBegins {l : Launch} {d : Nat} (hd : 0 ≤ d) {σ : vMem} {a0 : Nat} {x1 : Int32} {x2 : Int32} {r : vMem} (h : f_X3_boyBegins σ a0 x1 x2 = some r) : vOk l yX3_boyBegins cX3_boyBegins 3 none d [.ref a0, .int x1, .int x2] σ (.inl ((eV).1 r, (eV).2 r)) := V_method (em := eV) [some (.ref a0), some (.int x1), some (.int x2)] (by decide +kernel) rfl (Nat.le_of_ble_eq_true rfl) (w_X3_boyBegins hd σ a0 x1 x2) h
/-! NobodyBeenAftModel.boyGoes()V -/
def f_X3_boyGoes (σ : vMem) (a0 : Nat) : Option (vMem) := cko σ a0 [3] (cko σ a0 [3] (cko σ a0 [3] (vl (si σ a0 48 ((gi σ a0 48) + (gi σ a0 49))) (fun σ_1 => cko σ_1 a0 [3] (cko σ_1 a0 [3] (vl (fun (y : Int32) => cko σ_1 a0 [3] (vl (si σ_1 a0 49 y) (fun σ_2 => some σ_2))) (fun k => if ¬ (gi σ_1 a0 48) = ((gi σ_1 a0 3) - 1) then (cko σ_1 a0 [3] (if ¬ (gi σ_1 a0 48) = 0 then (cko σ_1 a0 [3] (k (gi σ_1 a0 49))) else k 1)) else k (-1))))))))
abbrev P_X3_boyGoes (l : Launch) (d n0 s0 : Nat) : vX → Prop := vMP l yX3_boyGoes cX3_boyGoes 1 none d n0 s0
theorem w_X3_boyGoes {l : Launch} {d n0 s0 : Nat} (hd : 0 ≤ d) (σ : vMem) (a0 : Nat) : V (P_X3_boyGoes l d n0 s0) (vEmb eV) σ 0 [some (.ref a0)] [] (f_X3_boyGoes σ a0) := by
  have hC : vPx (P_X3_boyGoes l d n0 s0) cX3_boyGoes 1 "NobodyBeenAftModel" none d := vMP_cx
  refine V_eq (f_X3_boyGoes.eq_1 ..) ?_
  refine V_aload_n hC dX3_boyGoes_0 rfl ?_
  refine V_dup hC dX3_boyGoes_1 rfl ?_
  refine g_X3_434 hC dX3_boyGoes_2 ?_
  refine V_aload_n hC dX3_boyGoes_5 rfl ?_
  refine g_X3_437 hC dX3_boyGoes_6 ?_
  refine V_iadd hC dX3_boyGoes_9 ?_
  refine p_X3_434 hC dX3_boyGoes_10 (fun σ_1 => ?_)
  refine V_aload_n hC dX3_boyGoes_13 rfl ?_
  refine V_aload_n hC dX3_boyGoes_14 rfl ?_
  refine g_X3_434 hC dX3_boyGoes_15 ?_
  refine V_aload_n hC dX3_boyGoes_18 rfl ?_
  refine g_X3_13 hC dX3_boyGoes_19 ?_
  refine V_iconst (v := 1) hC dX3_boyGoes_22 rfl ?_
  refine V_isub hC dX3_boyGoes_23 ?_
  refine V_let (B := fun k => ∀ (y : Int32), V (P_X3_boyGoes l d n0 s0) (vEmb eV) σ_1 46 [none] [.int y, .ref a0] (k y)) ?_ ?_
  · intro y
    refine p_X3_437 hC dX3_boyGoes_46 (fun σ_2 => ?_)
    exact V_return dX3_boyGoes_49 rfl rfl
  · intro k hk
    refine V_icmp_ne (tgt := 31) hC dX3_boyGoes_24 (by decide) ?_ ?_
    · refine V_aload_n hC dX3_boyGoes_31 rfl ?_
      refine g_X3_434 hC dX3_boyGoes_32 ?_
      refine V_if_ne (tgt := 42) hC dX3_boyGoes_35 (by decide) ?_ ?_
      · refine V_aload_n hC dX3_boyGoes_42 rfl ?_
        refine g_X3_437 hC dX3_boyGoes_43 ?_
        refine V_clr [0] (ls' := [none]) rfl ?_
        exact hk (gi σ_1 a0 49)
      · refine V_iconst (v := 1) hC dX3_boyGoes_38 rfl ?_
        refine V_goto (tgt := 46) hC dX3_boyGoes_39 (by decide) ?_
        refine V_clr [0] (ls' := [none]) rfl ?_
        exact hk 1
    · refine V_iconst (v := (-1)) hC dX3_boyGoes_27 rfl ?_
      refine V_goto (tgt := 46) hC dX3_boyGoes_28 (by decide) ?_
      refine V_clr [0] (ls' := [none]) rfl ?_
      exact hk (-1)
theorem c_X3_boyGoes {l : Launch} {d : Nat} (hd : 0 ≤ d) {σ : vMem} {a0 : Nat} {r : vMem} (h : f_X3_boyGoes σ a0 = some r) : vOk l yX3_boyGoes cX3_boyGoes 1 none d [.ref a0] σ (.inl ((eV).1 r, (eV).2 r)) := V_method (em := eV) [some (.ref a0)] (by decide +kernel) rfl (Nat.le_of_ble_eq_true rfl) (w_X3_boyGoes hd σ a0) h
/-! NobodyBeenAftModel.boy(II)I -/
def f_X3_boy_34 (a0 : Nat) (x1 : Int32) (x2 : Int32) (k : vMem → Option (Int32 × vMem)) : Nat → vMem → Int32 → Option (Int32 × vMem)
  | 0, _, _ => none
  | n + 1, σ_6, v3 => if x1 < v3 then (k σ_6) else ck (¬ x2 = 0) (vl (fun (σ_7 : vMem) => vl (v3 + 1) (fun v3_1 => f_X3_boy_34 a0 x1 x2 k n σ_7 v3_1)) (fun k_1 => if (v3 - (v3 / x2) * x2) = 0 then (k_1 σ_6) else cko σ_6 a0 [3] (bv (f_X3_boyGoes σ_6 a0) (fun σ_8 => k_1 σ_8))))
def f_X3_boy (σ : vMem) (a0 : Nat) (x1 : Int32) (x2 : Int32) : Option (Int32 × vMem) := cko σ a0 [3] (vl (si σ a0 0 0) (fun σ_1 => bp (f_X3_in σ_1 (Int32.toInt64 x1) 0 99999) (fun r => if r = 0 then (some ((-1), σ_1)) else bp (f_X3_canRest σ_1 x2) (fun r_1 => if ¬ r_1 = 0 then (cko σ_1 a0 [3] (bv (f_X3_boyBegins σ_1 a0 0 1) (fun σ_2 => vl (fun (σ_3 : vMem) => cko σ_3 a0 [3] (vl (si σ_3 a0 1 0) (fun σ_4 => cko σ_4 a0 [3] (cko σ_4 a0 [3] (bv (f_X3_enters σ_4 a0 (Int32.toInt64 (gi σ_4 a0 49))) (fun σ_5 => cko σ_5 a0 [3] (some ((gi σ_5 a0 48), σ_5)))))))) (fun k => f_X3_boy_34 a0 x1 x2 k FU σ_2 1)))) else some ((-1), σ_1)))))
abbrev P_X3_boy (l : Launch) (d n0 s0 : Nat) : vX → Prop := vMP l yX3_boy cX3_boy 4 (some .int) d n0 s0
theorem w_X3_boy_34 {l : Launch} {d n0 s0 : Nat} (hd : 2 ≤ d) (a0 : Nat) (x1 : Int32) (x2 : Int32) (k : vMem → Option (Int32 × vMem)) (hk : ∀ (σ_3 : vMem), V (P_X3_boy l d n0 s0) (vEmb eI) σ_3 55 [some (.ref a0), none, none, none] [] (k σ_3)) : ∀ (n : Nat) (σ_6 : vMem) (v3 : Int32), V (P_X3_boy l d n0 s0) (vEmb eI) σ_6 34 [some (.ref a0), some (.int x1), some (.int x2), some (.int v3)] [] (f_X3_boy_34 a0 x1 x2 k n σ_6 v3) := by
  have hC : vPx (P_X3_boy l d n0 s0) cX3_boy 4 "NobodyBeenAftModel" (some .int) d := vMP_cx
  intro n
  induction n with
  | zero =>
    intro σ_6 v3
    exact V_none
  | succ n ih =>
    intro σ_6 v3
    refine V_eq (f_X3_boy_34.eq_2 ..) ?_
    refine V_iload_n hC dX3_boy_34 rfl ?_
    refine V_iload_n hC dX3_boy_35 rfl ?_
    refine V_icmp_gt (tgt := 55) hC dX3_boy_36 (by decide) ?_ ?_
    · refine V_clr [1, 2, 3] (ls' := [some (.ref a0), none, none, none]) rfl ?_
      exact hk σ_6
    · refine V_iload_n hC dX3_boy_39 rfl ?_
      refine V_iload_n hC dX3_boy_40 rfl ?_
      refine V_ck (fun h9 => V_irem hC dX3_boy_41 h9 ?_)
      refine V_let (B := fun k_1 => ∀ (σ_7 : vMem), V (P_X3_boy l d n0 s0) (vEmb eI) σ_7 49 [some (.ref a0), some (.int x1), some (.int x2), some (.int v3)] [] (k_1 σ_7)) ?_ ?_
      · intro σ_7
        refine V_iincL (v := v3 + 1) (ls' := fun v3_1 => [some (.ref a0), some (.int x1), some (.int x2), some (.int v3_1)]) hC dX3_boy_49 rfl (by decide) rfl rfl (fun _ => rfl) (fun v3_1 => ?_)
        refine V_goto (tgt := 34) hC dX3_boy_52 (by decide) ?_
        exact ih σ_7 v3_1
      · intro k_1 hk_1
        refine V_if_eq (tgt := 49) hC dX3_boy_42 (by decide) ?_ ?_
        · exact hk_1 σ_6
        · refine V_aload_n hC dX3_boy_45 rfl ?_
          refine V_cko (fun hm => V_callV_V (c := 3) (As := []) (rest := []) (d' := 0) hC dX3_boy_46 0 (lw_V q1909 q1911 qs83 q87 q1912) (by decide +kernel) (List.mem_singleton.mp hm) (by decide) (by decide) rfl rfl rfl (Nat.le_of_ble_eq_true rfl) (Nat.le_trans (by decide) hd) (by decide) vMP_l (fun _ h => c_X3_boyGoes (Nat.le_refl _) h) (fun σ_8 => ?_))
          exact hk_1 σ_8
theorem w_X3_boy {l : Launch} {d n0 s0 : Nat} (hd : 2 ≤ d) (σ : vMem) (a0 : Nat) (x1 : Int32) (x2 : Int32) : V (P_X3_boy l d n0 s0) (vEmb eI) σ 0 [some (.ref a0), some (.int x1), some (.int x2), none] [] (f_X3_boy σ a0 x1 x2) := by
  have hC : vPx (P_X3_boy l d n0 s0) cX3_boy 4 "NobodyBeenAftModel" (some .int) d := vMP_cx
  refine V_eq (f_X3_boy.eq_1 ..) ?_
  refine V_aload_n hC dX3_boy_0 rfl ?_
  refine V_iconst (v := 0) hC dX3_boy_1 rfl ?_
  refine p_X3_103 hC dX3_boy_2 (fun σ_1 => ?_)
  refine V_iload_n hC dX3_boy_5 rfl ?_
  refine V_i2l hC dX3_boy_6 ?_
  refine V_lconst (v := 0) hC dX3_boy_7 rfl ?_
  refine V_ldc2 hC dX3_boy_8 q1900 ?_
  refine V_callS_PI (As := [.long (Int32.toInt64 x1), .long 0, .long 99999]) (rest := []) (d' := 0) hC dX3_boy_11 3 (lw_S q1448 q1449 q87 q1450) (by decide +kernel) rfl rfl (Nat.le_of_ble_eq_true rfl) (Nat.le_trans (by decide) hd) (by decide) vMP_l (fun _ h => c_X3_in (Nat.le_refl _) h) (fun r => ?_)
  refine V_if_eq (tgt := 24) hC dX3_boy_14 (by decide) ?_ ?_
  · refine V_iconst (v := (-1)) hC dX3_boy_24 rfl ?_
    exact V_ireturn dX3_boy_25 rfl rfl
  · refine V_iload_n hC dX3_boy_17 rfl ?_
    refine V_callS_PI (As := [.int x2]) (rest := []) (d' := 1) hC dX3_boy_18 1 (lw_S q1901 q1902 q87 q1903) (by decide +kernel) rfl rfl (Nat.le_of_ble_eq_true rfl) (Nat.le_trans (by decide) hd) (by decide) vMP_l (fun _ h => c_X3_canRest (Nat.le_refl _) h) (fun r_1 => ?_)
    refine V_if_ne (tgt := 26) hC dX3_boy_21 (by decide) ?_ ?_
    · refine V_aload_n hC dX3_boy_26 rfl ?_
      refine V_iconst (v := 0) hC dX3_boy_27 rfl ?_
      refine V_iconst (v := 1) hC dX3_boy_28 rfl ?_
      refine V_cko (fun hm => V_callV_V (c := 3) (As := [.int 0, .int 1]) (rest := []) (d' := 0) hC dX3_boy_29 2 (lw_V q1905 q1907 qs82 q87 q1908) (by decide +kernel) (List.mem_singleton.mp hm) (by decide) (by decide) rfl rfl rfl (Nat.le_of_ble_eq_true rfl) (Nat.le_trans (by decide) hd) (by decide) vMP_l (fun _ h => c_X3_boyBegins (Nat.le_refl _) h) (fun σ_2 => ?_))
      refine V_iconst (v := 1) hC dX3_boy_32 rfl ?_
      refine V_istore_n (ls' := [some (.ref a0), some (.int x1), some (.int x2), some (.int 1)]) hC dX3_boy_33 (by decide) rfl rfl ?_
      refine V_let (B := fun k => ∀ (σ_3 : vMem), V (P_X3_boy l d n0 s0) (vEmb eI) σ_3 55 [some (.ref a0), none, none, none] [] (k σ_3)) ?_ ?_
      · intro σ_3
        refine V_aload_n hC dX3_boy_55 rfl ?_
        refine V_iconst (v := 0) hC dX3_boy_56 rfl ?_
        refine p_X3_110 hC dX3_boy_57 (fun σ_4 => ?_)
        refine V_aload_n hC dX3_boy_60 rfl ?_
        refine V_aload_n hC dX3_boy_61 rfl ?_
        refine g_X3_437 hC dX3_boy_62 ?_
        refine V_i2l hC dX3_boy_65 ?_
        refine V_cko (fun hm => V_callV_V (c := 3) (As := [.long (Int32.toInt64 (gi σ_4 a0 49))]) (rest := []) (d' := 0) hC dX3_boy_66 1 (lw_V q1697 q1699 qs59 q87 q1700) (by decide +kernel) (List.mem_singleton.mp hm) (by decide) (by decide) rfl rfl rfl (Nat.le_of_ble_eq_true rfl) (Nat.le_trans (by decide) hd) (by decide) vMP_l (fun _ h => c_X3_enters (Nat.le_refl _) h) (fun σ_5 => ?_))
        refine V_aload_n hC dX3_boy_69 rfl ?_
        refine g_X3_434 hC dX3_boy_70 ?_
        exact V_ireturn dX3_boy_73 rfl rfl
      · intro k hk
        exact (w_X3_boy_34 hd a0 x1 x2 k hk) FU σ_2 1
    · refine V_iconst (v := (-1)) hC dX3_boy_24 rfl ?_
      exact V_ireturn dX3_boy_25 rfl rfl
theorem c_X3_boy {l : Launch} {d : Nat} (hd : 2 ≤ d) {σ : vMem} {a0 : Nat} {x1 : Int32} {x2 : Int32} {r : Int32 × vMem} (h : f_X3_boy σ a0 x1 x2 = some r) : vOk l yX3_boy cX3_boy 4 (some .int) d [.ref a0, .int x1, .int x2] σ (.inl ((eI).1 r, (eI).2 r)) := V_method (em := eI) [some (.ref a0), some (.int x1), some (.int x2), none] (by decide +kernel) rfl (Nat.le_of_ble_eq_true rfl) (w_X3_boy hd σ a0 x1 x2) h
/-! NobodyBeenAftModel.meets(I)I -/
def f_X3_meets_32 (a0 : Nat) (x1 : Int32) (k : vMem → Int32 → Int32 → Option (Int32 × vMem)) : Nat → vMem → Int32 → Int32 → Int32 → Option (Int32 × vMem)
  | 0, _, _, _, _ => none
  | n + 1, σ_6, v2_2, v3, v4_1 => if 999 < v4_1 then (some ((-2), σ_6)) else ck (¬ x1 = 0) (vl (fun (σ_7 : vMem) => vl (v2_2 + v3) (fun v2_3 => cko σ_7 a0 [3] (vl (fun (y : Int32) => cko σ_7 a0 [3] (if ¬ v2_3 = (gi σ_7 a0 48) then (vl (v4_1 + 1) (fun v4_2 => f_X3_meets_32 a0 x1 k n σ_7 v2_3 y v4_2)) else k σ_7 v2_3 v4_1)) (fun k_2 => if ¬ v2_3 = ((gi σ_7 a0 3) - 1) then (if ¬ v2_3 = 0 then (k_2 v3) else k_2 1) else k_2 (-1))))) (fun k_1 => if (v4_1 - (v4_1 / x1) * x1) = 0 then (k_1 σ_6) else cko σ_6 a0 [3] (bv (f_X3_boyGoes σ_6 a0) (fun σ_8 => k_1 σ_8))))
def f_X3_meets (σ : vMem) (a0 : Nat) (x1 : Int32) : Option (Int32 × vMem) := cko σ a0 [3] (vl (si σ a0 0 0) (fun σ_1 => bp (f_X3_canRest σ_1 x1) (fun r => if ¬ r = 0 then (cko σ_1 a0 [3] (vl ((gi σ_1 a0 3) - 1) (fun v2 => cko σ_1 a0 [3] (bv (f_X3_boyBegins σ_1 a0 0 1) (fun σ_2 => vl (fun (σ_3 : vMem) (v2_1 : Int32) (v4 : Int32) => cko σ_3 a0 [3] (vl (si σ_3 a0 1 0) (fun σ_4 => cko σ_4 a0 [3] (bv (f_X3_enters σ_4 a0 (Int32.toInt64 v2_1)) (fun σ_5 => some (v4, σ_5)))))) (fun k => f_X3_meets_32 a0 x1 k FU σ_2 v2 (-1) 1)))))) else some ((-1), σ_1))))
abbrev P_X3_meets (l : Launch) (d n0 s0 : Nat) : vX → Prop := vMP l yX3_meets cX3_meets 5 (some .int) d n0 s0
theorem w_X3_meets_32 {l : Launch} {d n0 s0 : Nat} (hd : 2 ≤ d) (a0 : Nat) (x1 : Int32) (k : vMem → Int32 → Int32 → Option (Int32 × vMem)) (hk : ∀ (σ_3 : vMem), ∀ (v2_1 : Int32), ∀ (v4 : Int32), V (P_X3_meets l d n0 s0) (vEmb eI) σ_3 87 [some (.ref a0), none, some (.int v2_1), none, some (.int v4)] [] (k σ_3 v2_1 v4)) : ∀ (n : Nat) (σ_6 : vMem) (v2_2 : Int32) (v3 : Int32) (v4_1 : Int32), V (P_X3_meets l d n0 s0) (vEmb eI) σ_6 32 [some (.ref a0), some (.int x1), some (.int v2_2), some (.int v3), some (.int v4_1)] [] (f_X3_meets_32 a0 x1 k n σ_6 v2_2 v3 v4_1) := by
  have hC : vPx (P_X3_meets l d n0 s0) cX3_meets 5 "NobodyBeenAftModel" (some .int) d := vMP_cx
  intro n
  induction n with
  | zero =>
    intro σ_6 v2_2 v3 v4_1
    exact V_none
  | succ n ih =>
    intro σ_6 v2_2 v3 v4_1
    refine V_eq (f_X3_meets_32.eq_2 ..) ?_
    refine V_iload hC dX3_meets_32 rfl ?_
    refine V_sipush (v := 999) hC dX3_meets_34 rfl ?_
    refine V_icmp_gt (tgt := 107) hC dX3_meets_37 (by decide) ?_ ?_
    · refine V_bipush (v := (-2)) hC dX3_meets_107 rfl ?_
      exact V_ireturn dX3_meets_109 rfl rfl
    · refine V_iload hC dX3_meets_40 rfl ?_
      refine V_iload_n hC dX3_meets_42 rfl ?_
      refine V_ck (fun h9 => V_irem hC dX3_meets_43 h9 ?_)
      refine V_let (B := fun k_1 => ∀ (σ_7 : vMem), V (P_X3_meets l d n0 s0) (vEmb eI) σ_7 51 [some (.ref a0), some (.int x1), some (.int v2_2), some (.int v3), some (.int v4_1)] [] (k_1 σ_7)) ?_ ?_
      · intro σ_7
        refine V_iload_n hC dX3_meets_51 rfl ?_
        refine V_iload_n hC dX3_meets_52 rfl ?_
        refine V_iadd hC dX3_meets_53 ?_
        refine V_istore_nL (ls' := fun v2_3 => [some (.ref a0), some (.int x1), some (.int v2_3), some (.int v3), some (.int v4_1)]) hC dX3_meets_54 (by decide) rfl (fun _ => rfl) (fun v2_3 => ?_)
        refine V_iload_n hC dX3_meets_55 rfl ?_
        refine V_aload_n hC dX3_meets_56 rfl ?_
        refine g_X3_13 hC dX3_meets_57 ?_
        refine V_iconst (v := 1) hC dX3_meets_60 rfl ?_
        refine V_isub hC dX3_meets_61 ?_
        refine V_let (B := fun k_2 => ∀ (y : Int32), V (P_X3_meets l d n0 s0) (vEmb eI) σ_7 78 [some (.ref a0), some (.int x1), some (.int v2_3), none, some (.int v4_1)] [.int y] (k_2 y)) ?_ ?_
        · intro y
          refine V_istore_n (ls' := [some (.ref a0), some (.int x1), some (.int v2_3), some (.int y), some (.int v4_1)]) hC dX3_meets_78 (by decide) rfl rfl ?_
          refine V_iload_n hC dX3_meets_79 rfl ?_
          refine V_aload_n hC dX3_meets_80 rfl ?_
          refine g_X3_434 hC dX3_meets_81 ?_
          refine V_icmp_ne (tgt := 101) hC dX3_meets_84 (by decide) ?_ ?_
          · refine V_iincL (v := v4_1 + 1) (ls' := fun v4_2 => [some (.ref a0), some (.int x1), some (.int v2_3), some (.int y), some (.int v4_2)]) hC dX3_meets_101 rfl (by decide) rfl rfl (fun _ => rfl) (fun v4_2 => ?_)
            refine V_goto (tgt := 32) hC dX3_meets_104 (by decide) ?_
            exact ih σ_7 v2_3 y v4_2
          · refine V_clr [1, 3] (ls' := [some (.ref a0), none, some (.int v2_3), none, some (.int v4_1)]) rfl ?_
            exact hk σ_7 v2_3 v4_1
        · intro k_2 hk_2
          refine V_icmp_ne (tgt := 69) hC dX3_meets_62 (by decide) ?_ ?_
          · refine V_iload_n hC dX3_meets_69 rfl ?_
            refine V_if_ne (tgt := 77) hC dX3_meets_70 (by decide) ?_ ?_
            · refine V_iload_n hC dX3_meets_77 rfl ?_
              refine V_clr [3] (ls' := [some (.ref a0), some (.int x1), some (.int v2_3), none, some (.int v4_1)]) rfl ?_
              exact hk_2 v3
            · refine V_iconst (v := 1) hC dX3_meets_73 rfl ?_
              refine V_goto (tgt := 78) hC dX3_meets_74 (by decide) ?_
              refine V_clr [3] (ls' := [some (.ref a0), some (.int x1), some (.int v2_3), none, some (.int v4_1)]) rfl ?_
              exact hk_2 1
          · refine V_iconst (v := (-1)) hC dX3_meets_65 rfl ?_
            refine V_goto (tgt := 78) hC dX3_meets_66 (by decide) ?_
            refine V_clr [3] (ls' := [some (.ref a0), some (.int x1), some (.int v2_3), none, some (.int v4_1)]) rfl ?_
            exact hk_2 (-1)
      · intro k_1 hk_1
        refine V_if_eq (tgt := 51) hC dX3_meets_44 (by decide) ?_ ?_
        · exact hk_1 σ_6
        · refine V_aload_n hC dX3_meets_47 rfl ?_
          refine V_cko (fun hm => V_callV_V (c := 3) (As := []) (rest := []) (d' := 0) hC dX3_meets_48 0 (lw_V q1909 q1911 qs83 q87 q1912) (by decide +kernel) (List.mem_singleton.mp hm) (by decide) (by decide) rfl rfl rfl (Nat.le_of_ble_eq_true rfl) (Nat.le_trans (by decide) hd) (by decide) vMP_l (fun _ h => c_X3_boyGoes (Nat.le_refl _) h) (fun σ_8 => ?_))
          exact hk_1 σ_8
theorem w_X3_meets {l : Launch} {d n0 s0 : Nat} (hd : 2 ≤ d) (σ : vMem) (a0 : Nat) (x1 : Int32) : V (P_X3_meets l d n0 s0) (vEmb eI) σ 0 [some (.ref a0), some (.int x1), none, none, none] [] (f_X3_meets σ a0 x1) := by
  have hC : vPx (P_X3_meets l d n0 s0) cX3_meets 5 "NobodyBeenAftModel" (some .int) d := vMP_cx
  refine V_eq (f_X3_meets.eq_1 ..) ?_
  refine V_aload_n hC dX3_meets_0 rfl ?_
  refine V_iconst (v := 0) hC dX3_meets_1 rfl ?_
  refine p_X3_103 hC dX3_meets_2 (fun σ_1 => ?_)
  refine V_iload_n hC dX3_meets_5 rfl ?_
  refine V_callS_PI (As := [.int x1]) (rest := []) (d' := 1) hC dX3_meets_6 1 (lw_S q1901 q1902 q87 q1903) (by decide +kernel) rfl rfl (Nat.le_of_ble_eq_true rfl) (Nat.le_trans (by decide) hd) (by decide) vMP_l (fun _ h => c_X3_canRest (Nat.le_refl _) h) (fun r => ?_)
  refine V_if_ne (tgt := 14) hC dX3_meets_9 (by decide) ?_ ?_
  · refine V_aload_n hC dX3_meets_14 rfl ?_
    refine g_X3_13 hC dX3_meets_15 ?_
    refine V_iconst (v := 1) hC dX3_meets_18 rfl ?_
    refine V_isub hC dX3_meets_19 ?_
    refine V_istore_nL (ls' := fun v2 => [some (.ref a0), some (.int x1), some (.int v2), none, none]) hC dX3_meets_20 (by decide) rfl (fun _ => rfl) (fun v2 => ?_)
    refine V_iconst (v := (-1)) hC dX3_meets_21 rfl ?_
    refine V_istore_n (ls' := [some (.ref a0), some (.int x1), some (.int v2), some (.int (-1)), none]) hC dX3_meets_22 (by decide) rfl rfl ?_
    refine V_aload_n hC dX3_meets_23 rfl ?_
    refine V_iconst (v := 0) hC dX3_meets_24 rfl ?_
    refine V_iconst (v := 1) hC dX3_meets_25 rfl ?_
    refine V_cko (fun hm => V_callV_V (c := 3) (As := [.int 0, .int 1]) (rest := []) (d' := 0) hC dX3_meets_26 2 (lw_V q1905 q1907 qs82 q87 q1908) (by decide +kernel) (List.mem_singleton.mp hm) (by decide) (by decide) rfl rfl rfl (Nat.le_of_ble_eq_true rfl) (Nat.le_trans (by decide) hd) (by decide) vMP_l (fun _ h => c_X3_boyBegins (Nat.le_refl _) h) (fun σ_2 => ?_))
    refine V_iconst (v := 1) hC dX3_meets_29 rfl ?_
    refine V_istore (ls' := [some (.ref a0), some (.int x1), some (.int v2), some (.int (-1)), some (.int 1)]) hC dX3_meets_30 (by decide) rfl rfl ?_
    refine V_let (B := fun k => ∀ (σ_3 : vMem), ∀ (v2_1 : Int32), ∀ (v4 : Int32), V (P_X3_meets l d n0 s0) (vEmb eI) σ_3 87 [some (.ref a0), none, some (.int v2_1), none, some (.int v4)] [] (k σ_3 v2_1 v4)) ?_ ?_
    · intro σ_3 v2_1 v4
      refine V_aload_n hC dX3_meets_87 rfl ?_
      refine V_iconst (v := 0) hC dX3_meets_88 rfl ?_
      refine p_X3_110 hC dX3_meets_89 (fun σ_4 => ?_)
      refine V_aload_n hC dX3_meets_92 rfl ?_
      refine V_iload_n hC dX3_meets_93 rfl ?_
      refine V_i2l hC dX3_meets_94 ?_
      refine V_cko (fun hm => V_callV_V (c := 3) (As := [.long (Int32.toInt64 v2_1)]) (rest := []) (d' := 0) hC dX3_meets_95 1 (lw_V q1697 q1699 qs59 q87 q1700) (by decide +kernel) (List.mem_singleton.mp hm) (by decide) (by decide) rfl rfl rfl (Nat.le_of_ble_eq_true rfl) (Nat.le_trans (by decide) hd) (by decide) vMP_l (fun _ h => c_X3_enters (Nat.le_refl _) h) (fun σ_5 => ?_))
      refine V_iload hC dX3_meets_98 rfl ?_
      exact V_ireturn dX3_meets_100 rfl rfl
    · intro k hk
      exact (w_X3_meets_32 hd a0 x1 k hk) FU σ_2 v2 (-1) 1
  · refine V_iconst (v := (-1)) hC dX3_meets_12 rfl ?_
    exact V_ireturn dX3_meets_13 rfl rfl
theorem c_X3_meets {l : Launch} {d : Nat} (hd : 2 ≤ d) {σ : vMem} {a0 : Nat} {x1 : Int32} {r : Int32 × vMem} (h : f_X3_meets σ a0 x1 = some r) : vOk l yX3_meets cX3_meets 5 (some .int) d [.ref a0, .int x1] σ (.inl ((eI).1 r, (eI).2 r)) := V_method (em := eI) [some (.ref a0), some (.int x1), none, none, none] (by decide +kernel) rfl (Nat.le_of_ble_eq_true rfl) (w_X3_meets hd σ a0 x1) h
/-! NobodyBeenAftModel.knows(II)I -/
def f_X3_knows_42 (a0 : Nat) (x1 : Int32) (x2 : Int32) (σ_1 : vMem) (k : Int64 → Int64 → Option (Int32 × vMem)) : Nat → Int64 → Int64 → Int32 → Option (Int32 × vMem)
  | 0, _, _, _ => none
  | n + 1, v3_2, v5_1, v7 => if x1 ≤ v7 then (k v3_2 v5_1) else vl (v3_2 * (Int32.toInt64 (10 - x2))) (fun v3_3 => vl (v5_1 * 10) (fun v5_2 => vl (v7 + 1) (fun v7_1 => f_X3_knows_42 a0 x1 x2 σ_1 k n v3_3 v5_2 v7_1)))
def f_X3_knows (σ : vMem) (a0 : Nat) (x1 : Int32) (x2 : Int32) : Option (Int32 × vMem) := cko σ a0 [3] (vl (si σ a0 0 0) (fun σ_1 => bp (f_X3_in σ_1 (Int32.toInt64 x1) 0 12) (fun r => if r = 0 then (some ((-1), σ_1)) else bp (f_X3_in σ_1 (Int32.toInt64 x2) 0 10) (fun r_1 => if ¬ r_1 = 0 then (vl (Int32.toInt64 x2) (fun v3 => vl (fun (v3_1 : Int64) (v5 : Int64) => cko σ_1 a0 [3] (bv (f_X3_tellsFraction σ_1 a0 v3_1 v5) (fun σ_2 => some (0, σ_2)))) (fun k => f_X3_knows_42 a0 x1 x2 σ_1 k FU v3 10 0))) else some ((-1), σ_1)))))
abbrev P_X3_knows (l : Launch) (d n0 s0 : Nat) : vX → Prop := vMP l yX3_knows cX3_knows 8 (some .int) d n0 s0
theorem w_X3_knows_42 {l : Launch} {d n0 s0 : Nat} (hd : 102 ≤ d) (a0 : Nat) (x1 : Int32) (x2 : Int32) (σ_1 : vMem) (k : Int64 → Int64 → Option (Int32 × vMem)) (hk : ∀ (v3_1 : Int64), ∀ (v5 : Int64), V (P_X3_knows l d n0 s0) (vEmb eI) σ_1 70 [some (.ref a0), none, none, some (.long v3_1), none, some (.long v5), none, none] [] (k v3_1 v5)) : ∀ (n : Nat) (v3_2 : Int64) (v5_1 : Int64) (v7 : Int32), V (P_X3_knows l d n0 s0) (vEmb eI) σ_1 42 [some (.ref a0), some (.int x1), some (.int x2), some (.long v3_2), none, some (.long v5_1), none, some (.int v7)] [] (f_X3_knows_42 a0 x1 x2 σ_1 k n v3_2 v5_1 v7) := by
  have hC : vPx (P_X3_knows l d n0 s0) cX3_knows 8 "NobodyBeenAftModel" (some .int) d := vMP_cx
  intro n
  induction n with
  | zero =>
    intro v3_2 v5_1 v7
    exact V_none
  | succ n ih =>
    intro v3_2 v5_1 v7
    refine V_eq (f_X3_knows_42.eq_2 ..) ?_
    refine V_iload hC dX3_knows_42 rfl ?_
    refine V_iload_n hC dX3_knows_44 rfl ?_
    refine V_icmp_ge (tgt := 70) hC dX3_knows_45 (by decide) ?_ ?_
    · refine V_clr [1, 2, 7] (ls' := [some (.ref a0), none, none, some (.long v3_2), none, some (.long v5_1), none, none]) rfl ?_
      exact hk v3_2 v5_1
    · refine V_lload_n hC dX3_knows_48 rfl ?_
      refine V_bipush (v := 10) hC dX3_knows_49 rfl ?_
      refine V_iload_n hC dX3_knows_51 rfl ?_
      refine V_isub hC dX3_knows_52 ?_
      refine V_i2l hC dX3_knows_53 ?_
      refine V_lmul hC dX3_knows_54 ?_
      refine V_lstore_nL (ls' := fun v3_3 => [some (.ref a0), some (.int x1), some (.int x2), some (.long v3_3), none, some (.long v5_1), none, some (.int v7)]) hC dX3_knows_55 (by decide) rfl (fun _ => rfl) (fun v3_3 => ?_)
      refine V_lload hC dX3_knows_56 rfl ?_
      refine V_ldc2 hC dX3_knows_58 q1801 ?_
      refine V_lmul hC dX3_knows_61 ?_
      refine V_lstoreL (ls' := fun v5_2 => [some (.ref a0), some (.int x1), some (.int x2), some (.long v3_3), none, some (.long v5_2), none, some (.int v7)]) hC dX3_knows_62 (by decide) rfl (fun _ => rfl) (fun v5_2 => ?_)
      refine V_iincL (v := v7 + 1) (ls' := fun v7_1 => [some (.ref a0), some (.int x1), some (.int x2), some (.long v3_3), none, some (.long v5_2), none, some (.int v7_1)]) hC dX3_knows_64 rfl (by decide) rfl rfl (fun _ => rfl) (fun v7_1 => ?_)
      refine V_goto (tgt := 42) hC dX3_knows_67 (by decide) ?_
      exact ih v3_3 v5_2 v7_1
theorem w_X3_knows {l : Launch} {d n0 s0 : Nat} (hd : 102 ≤ d) (σ : vMem) (a0 : Nat) (x1 : Int32) (x2 : Int32) : V (P_X3_knows l d n0 s0) (vEmb eI) σ 0 [some (.ref a0), some (.int x1), some (.int x2), none, none, none, none, none] [] (f_X3_knows σ a0 x1 x2) := by
  have hC : vPx (P_X3_knows l d n0 s0) cX3_knows 8 "NobodyBeenAftModel" (some .int) d := vMP_cx
  refine V_eq (f_X3_knows.eq_1 ..) ?_
  refine V_aload_n hC dX3_knows_0 rfl ?_
  refine V_iconst (v := 0) hC dX3_knows_1 rfl ?_
  refine p_X3_103 hC dX3_knows_2 (fun σ_1 => ?_)
  refine V_iload_n hC dX3_knows_5 rfl ?_
  refine V_i2l hC dX3_knows_6 ?_
  refine V_lconst (v := 0) hC dX3_knows_7 rfl ?_
  refine V_ldc2 hC dX3_knows_8 q1796 ?_
  refine V_callS_PI (As := [.long (Int32.toInt64 x1), .long 0, .long 12]) (rest := []) (d' := 0) hC dX3_knows_11 3 (lw_S q1448 q1449 q87 q1450) (by decide +kernel) rfl rfl (Nat.le_of_ble_eq_true rfl) (Nat.le_trans (by decide) hd) (by decide) vMP_l (fun _ h => c_X3_in (Nat.le_refl _) h) (fun r => ?_)
  refine V_if_eq (tgt := 29) hC dX3_knows_14 (by decide) ?_ ?_
  · refine V_iconst (v := (-1)) hC dX3_knows_29 rfl ?_
    exact V_ireturn dX3_knows_30 rfl rfl
  · refine V_iload_n hC dX3_knows_17 rfl ?_
    refine V_i2l hC dX3_knows_18 ?_
    refine V_lconst (v := 0) hC dX3_knows_19 rfl ?_
    refine V_ldc2 hC dX3_knows_20 q1801 ?_
    refine V_callS_PI (As := [.long (Int32.toInt64 x2), .long 0, .long 10]) (rest := []) (d' := 0) hC dX3_knows_23 3 (lw_S q1448 q1449 q87 q1450) (by decide +kernel) rfl rfl (Nat.le_of_ble_eq_true rfl) (Nat.le_trans (by decide) hd) (by decide) vMP_l (fun _ h => c_X3_in (Nat.le_refl _) h) (fun r_1 => ?_)
    refine V_if_ne (tgt := 31) hC dX3_knows_26 (by decide) ?_ ?_
    · refine V_iload_n hC dX3_knows_31 rfl ?_
      refine V_i2l hC dX3_knows_32 ?_
      refine V_lstore_nL (ls' := fun v3 => [some (.ref a0), some (.int x1), some (.int x2), some (.long v3), none, none, none, none]) hC dX3_knows_33 (by decide) rfl (fun _ => rfl) (fun v3 => ?_)
      refine V_ldc2 hC dX3_knows_34 q1801 ?_
      refine V_lstore (ls' := [some (.ref a0), some (.int x1), some (.int x2), some (.long v3), none, some (.long 10), none, none]) hC dX3_knows_37 (by decide) rfl rfl ?_
      refine V_iconst (v := 0) hC dX3_knows_39 rfl ?_
      refine V_istore (ls' := [some (.ref a0), some (.int x1), some (.int x2), some (.long v3), none, some (.long 10), none, some (.int 0)]) hC dX3_knows_40 (by decide) rfl rfl ?_
      refine V_let (B := fun k => ∀ (v3_1 : Int64), ∀ (v5 : Int64), V (P_X3_knows l d n0 s0) (vEmb eI) σ_1 70 [some (.ref a0), none, none, some (.long v3_1), none, some (.long v5), none, none] [] (k v3_1 v5)) ?_ ?_
      · intro v3_1 v5
        refine V_aload_n hC dX3_knows_70 rfl ?_
        refine V_lload_n hC dX3_knows_71 rfl ?_
        refine V_lload hC dX3_knows_72 rfl ?_
        refine V_cko (fun hm => V_callV_V (c := 3) (As := [.long v3_1, .long v5]) (rest := []) (d' := 101) hC dX3_knows_74 2 (lw_V q1820 q1822 qs73 q87 q1823) (by decide +kernel) (List.mem_singleton.mp hm) (by decide) (by decide) rfl rfl rfl (Nat.le_of_ble_eq_true rfl) (Nat.le_trans (by decide) hd) (by decide) vMP_l (fun _ h => c_X3_tellsFraction (Nat.le_refl _) h) (fun σ_2 => ?_))
        refine V_iconst (v := 0) hC dX3_knows_77 rfl ?_
        exact V_ireturn dX3_knows_78 rfl rfl
      · intro k hk
        exact (w_X3_knows_42 hd a0 x1 x2 σ_1 k hk) FU v3 10 0
    · refine V_iconst (v := (-1)) hC dX3_knows_29 rfl ?_
      exact V_ireturn dX3_knows_30 rfl rfl
theorem c_X3_knows {l : Launch} {d : Nat} (hd : 102 ≤ d) {σ : vMem} {a0 : Nat} {x1 : Int32} {x2 : Int32} {r : Int32 × vMem} (h : f_X3_knows σ a0 x1 x2 = some r) : vOk l yX3_knows cX3_knows 8 (some .int) d [.ref a0, .int x1, .int x2] σ (.inl ((eI).1 r, (eI).2 r)) := V_method (em := eI) [some (.ref a0), some (.int x1), some (.int x2), none, none, none, none, none] (by decide +kernel) rfl (Nat.le_of_ble_eq_true rfl) (w_X3_knows hd σ a0 x1 x2) h
/-! NobodyBeenAftModel.keeps(IIII)I -/
def f_X3_keeps (σ : vMem) (x0 : Int32) (x1 : Int32) (x2 : Int32) (x3 : Int32) : Option (Int32) := if (x1 + x2) < x3 then (some (x0 / 2)) else some (x0 - x1)
abbrev P_X3_keeps (l : Launch) (d n0 s0 : Nat) : vX → Prop := vMP l yX3_keeps cX3_keeps 4 (some .int) d n0 s0
theorem w_X3_keeps {l : Launch} {d n0 s0 : Nat} (hd : 0 ≤ d) (σ : vMem) (x0 : Int32) (x1 : Int32) (x2 : Int32) (x3 : Int32) : V (P_X3_keeps l d n0 s0) (vEmb (ePI σ)) σ 0 [some (.int x0), some (.int x1), some (.int x2), some (.int x3)] [] (f_X3_keeps σ x0 x1 x2 x3) := by
  have hC : vPx (P_X3_keeps l d n0 s0) cX3_keeps 4 "NobodyBeenAftModel" (some .int) d := vMP_cx
  refine V_eq (f_X3_keeps.eq_1 ..) ?_
  refine V_iload_n hC dX3_keeps_0 rfl ?_
  refine V_iload_n hC dX3_keeps_1 rfl ?_
  refine V_iadd hC dX3_keeps_2 ?_
  refine V_iload_n hC dX3_keeps_3 rfl ?_
  refine V_icmp_lt (tgt := 13) hC dX3_keeps_4 (by decide) ?_ ?_
  · refine V_iload_n hC dX3_keeps_13 rfl ?_
    refine V_iconst (v := 2) hC dX3_keeps_14 rfl ?_
    refine V_idiv hC dX3_keeps_15 (by decide) ?_
    exact V_ireturn dX3_keeps_16 rfl rfl
  · refine V_iload_n hC dX3_keeps_7 rfl ?_
    refine V_iload_n hC dX3_keeps_8 rfl ?_
    refine V_isub hC dX3_keeps_9 ?_
    refine V_goto (tgt := 16) hC dX3_keeps_10 (by decide) ?_
    exact V_ireturn dX3_keeps_16 rfl rfl
theorem c_X3_keeps {l : Launch} {d : Nat} (hd : 0 ≤ d) {σ : vMem} {x0 : Int32} {x1 : Int32} {x2 : Int32} {x3 : Int32} {r : Int32} (h : f_X3_keeps σ x0 x1 x2 x3 = some r) : vOk l yX3_keeps cX3_keeps 4 (some .int) d [.int x0, .int x1, .int x2, .int x3] σ (.inl (((ePI σ)).1 r, ((ePI σ)).2 r)) := V_method (em := (ePI σ)) [some (.int x0), some (.int x1), some (.int x2), some (.int x3)] (by decide +kernel) rfl (Nat.le_of_ble_eq_true rfl) (w_X3_keeps hd σ x0 x1 x2 x3) h
/-! NobodyBeenAftModel.isRest(IIII)Z -/
def f_X3_isRest_6 (σ : vMem) (x0 : Int32) (x1 : Int32) (x2 : Int32) (x3 : Int32) : Nat → Int32 → Int32 → Option (Int32)
  | 0, _, _ => none
  | n + 1, v4, v5 => if (imin 9 x0) < v5 then (ck (narrow .boolean (.int v4) = .int v4) (some v4)) else vl (fun (y : Int32) => vl (v5 + 1) (fun v5_1 => f_X3_isRest_6 σ x0 x1 x2 x3 n y v5_1)) (fun k => vl (k 0) (fun k_1 => if v4 = 0 then k_1 else bp (f_X3_keeps σ x0 v5 x2 x3) (fun r => bp (f_X3_keeps σ x0 x1 x2 x3) (fun r_1 => if r_1 < r then k_1 else k 1))))
def f_X3_isRest (σ : vMem) (x0 : Int32) (x1 : Int32) (x2 : Int32) (x3 : Int32) : Option (Int32) := f_X3_isRest_6 σ x0 x1 x2 x3 FU 1 0
abbrev P_X3_isRest (l : Launch) (d n0 s0 : Nat) : vX → Prop := vMP l yX3_isRest cX3_isRest 6 (some .boolean) d n0 s0
theorem w_X3_isRest_6 {l : Launch} {d n0 s0 : Nat} (hd : 1 ≤ d) (σ : vMem) (x0 : Int32) (x1 : Int32) (x2 : Int32) (x3 : Int32)  : ∀ (n : Nat) (v4 : Int32) (v5 : Int32), V (P_X3_isRest l d n0 s0) (vEmb (ePI σ)) σ 6 [some (.int x0), some (.int x1), some (.int x2), some (.int x3), some (.int v4), some (.int v5)] [] (f_X3_isRest_6 σ x0 x1 x2 x3 n v4 v5) := by
  have hC : vPx (P_X3_isRest l d n0 s0) cX3_isRest 6 "NobodyBeenAftModel" (some .boolean) d := vMP_cx
  intro n
  induction n with
  | zero =>
    intro v4 v5
    exact V_none
  | succ n ih =>
    intro v4 v5
    refine V_eq (f_X3_isRest_6.eq_2 ..) ?_
    refine V_iload hC dX3_isRest_6 rfl ?_
    refine V_bipush (v := 9) hC dX3_isRest_8 rfl ?_
    refine V_iload_n hC dX3_isRest_10 rfl ?_
    refine V_mmin hC dX3_isRest_11 q1459 q327 q90 q328 (Nat.le_of_ble_eq_true rfl) ?_
    refine V_icmp_gt (tgt := 53) hC dX3_isRest_14 (by decide) ?_ ?_
    · refine V_iload hC dX3_isRest_53 rfl ?_
      exact V_ck (fun h9 => V_zreturn h9 dX3_isRest_55 rfl rfl)
    · refine V_iload hC dX3_isRest_17 rfl ?_
      refine V_let (B := fun k => ∀ (y : Int32), V (P_X3_isRest l d n0 s0) (vEmb (ePI σ)) σ 45 [some (.int x0), some (.int x1), some (.int x2), some (.int x3), none, some (.int v5)] [.int y] (k y)) ?_ ?_
      · intro y
        refine V_istore (ls' := [some (.int x0), some (.int x1), some (.int x2), some (.int x3), some (.int y), some (.int v5)]) hC dX3_isRest_45 (by decide) rfl rfl ?_
        refine V_iincL (v := v5 + 1) (ls' := fun v5_1 => [some (.int x0), some (.int x1), some (.int x2), some (.int x3), some (.int y), some (.int v5_1)]) hC dX3_isRest_47 rfl (by decide) rfl rfl (fun _ => rfl) (fun v5_1 => ?_)
        refine V_goto (tgt := 6) hC dX3_isRest_50 (by decide) ?_
        exact ih y v5_1
      · intro k hk
        refine V_let (B := fun k_1 => V (P_X3_isRest l d n0 s0) (vEmb (ePI σ)) σ 44 [some (.int x0), some (.int x1), some (.int x2), some (.int x3), none, some (.int v5)] [] (k_1)) ?_ ?_
        · skip
          refine V_iconst (v := 0) hC dX3_isRest_44 rfl ?_
          exact hk 0
        · intro k_1 hk_1
          refine V_if_eq (tgt := 44) hC dX3_isRest_19 (by decide) ?_ ?_
          · refine V_clr [4] (ls' := [some (.int x0), some (.int x1), some (.int x2), some (.int x3), none, some (.int v5)]) rfl ?_
            exact hk_1
          · refine V_iload_n hC dX3_isRest_22 rfl ?_
            refine V_iload hC dX3_isRest_23 rfl ?_
            refine V_iload_n hC dX3_isRest_25 rfl ?_
            refine V_iload_n hC dX3_isRest_26 rfl ?_
            refine V_callS_PI (As := [.int x0, .int v5, .int x2, .int x3]) (rest := []) (d' := 0) hC dX3_isRest_27 4 (lw_S q1930 q1931 q87 q1932) (by decide +kernel) rfl rfl (Nat.le_of_ble_eq_true rfl) (Nat.le_trans (by decide) hd) (by decide) vMP_l (fun _ h => c_X3_keeps (Nat.le_refl _) h) (fun r => ?_)
            refine V_iload_n hC dX3_isRest_30 rfl ?_
            refine V_iload_n hC dX3_isRest_31 rfl ?_
            refine V_iload_n hC dX3_isRest_32 rfl ?_
            refine V_iload_n hC dX3_isRest_33 rfl ?_
            refine V_callS_PI (As := [.int x0, .int x1, .int x2, .int x3]) (rest := [.int r]) (d' := 0) hC dX3_isRest_34 4 (lw_S q1930 q1931 q87 q1932) (by decide +kernel) rfl rfl (Nat.le_of_ble_eq_true rfl) (Nat.le_trans (by decide) hd) (by decide) vMP_l (fun _ h => c_X3_keeps (Nat.le_refl _) h) (fun r_1 => ?_)
            refine V_icmp_gt (tgt := 44) hC dX3_isRest_37 (by decide) ?_ ?_
            · refine V_clr [4] (ls' := [some (.int x0), some (.int x1), some (.int x2), some (.int x3), none, some (.int v5)]) rfl ?_
              exact hk_1
            · refine V_iconst (v := 1) hC dX3_isRest_40 rfl ?_
              refine V_goto (tgt := 45) hC dX3_isRest_41 (by decide) ?_
              refine V_clr [4] (ls' := [some (.int x0), some (.int x1), some (.int x2), some (.int x3), none, some (.int v5)]) rfl ?_
              exact hk 1
theorem w_X3_isRest {l : Launch} {d n0 s0 : Nat} (hd : 1 ≤ d) (σ : vMem) (x0 : Int32) (x1 : Int32) (x2 : Int32) (x3 : Int32) : V (P_X3_isRest l d n0 s0) (vEmb (ePI σ)) σ 0 [some (.int x0), some (.int x1), some (.int x2), some (.int x3), none, none] [] (f_X3_isRest σ x0 x1 x2 x3) := by
  have hC : vPx (P_X3_isRest l d n0 s0) cX3_isRest 6 "NobodyBeenAftModel" (some .boolean) d := vMP_cx
  refine V_eq (f_X3_isRest.eq_1 ..) ?_
  refine V_iconst (v := 1) hC dX3_isRest_0 rfl ?_
  refine V_istore (ls' := [some (.int x0), some (.int x1), some (.int x2), some (.int x3), some (.int 1), none]) hC dX3_isRest_1 (by decide) rfl rfl ?_
  refine V_iconst (v := 0) hC dX3_isRest_3 rfl ?_
  refine V_istore (ls' := [some (.int x0), some (.int x1), some (.int x2), some (.int x3), some (.int 1), some (.int 0)]) hC dX3_isRest_4 (by decide) rfl rfl ?_
  exact (w_X3_isRest_6 hd σ x0 x1 x2 x3) FU 1 0
theorem c_X3_isRest {l : Launch} {d : Nat} (hd : 1 ≤ d) {σ : vMem} {x0 : Int32} {x1 : Int32} {x2 : Int32} {x3 : Int32} {r : Int32} (h : f_X3_isRest σ x0 x1 x2 x3 = some r) : vOk l yX3_isRest cX3_isRest 6 (some .boolean) d [.int x0, .int x1, .int x2, .int x3] σ (.inl (((ePI σ)).1 r, ((ePI σ)).2 r)) := V_method (em := (ePI σ)) [some (.int x0), some (.int x1), some (.int x2), some (.int x3), none, none] (by decide +kernel) rfl (Nat.le_of_ble_eq_true rfl) (w_X3_isRest hd σ x0 x1 x2 x3) h
/-! NobodyBeenAftModel.mutiny(III)I -/
def f_X3_mutiny_68 (a0 : Nat) (x1 : Int32) (x2 : Int32) (x3 : Int32) (v5 : Int32) (k : vMem → Int32 → Option (Int32 × vMem)) : Nat → vMem → Int32 → Int32 → Option (Int32 × vMem)
  | 0, _, _, _ => none
  | n_1 + 1, σ_5, v4_2, v6 => if (imin 9 x2) < v6 then (k σ_5 v4_2) else bp (f_X3_isRest σ_5 x1 v5 v6 x3) (fun r_3 => vl (fun (σ_6 : vMem) (v4_3 : Int32) => vl (v6 + 1) (fun v6_1 => f_X3_mutiny_68 a0 x1 x2 x3 v5 k n_1 σ_6 v4_3 v6_1)) (fun k_1 => if r_3 = 0 then (k_1 σ_5 v4_2) else bp (f_X3_isRest σ_5 x2 v6 v5 x3) (fun r_4 => if r_4 = 0 then (k_1 σ_5 v4_2) else vl (fun (σ_7 : vMem) => vl (v4_2 + 1) (fun v4_4 => k_1 σ_7 v4_4)) (fun k_2 => if ¬ v4_2 = 0 then (k_2 σ_5) else cko σ_5 a0 [3] (bv (f_X3_enters σ_5 a0 (Int32.toInt64 v5)) (fun σ_8 => cko σ_8 a0 [3] (bv (f_X3_enters σ_8 a0 (Int32.toInt64 v6)) (fun σ_9 => k_2 σ_9))))))))
def f_X3_mutiny_54 (a0 : Nat) (x1 : Int32) (x2 : Int32) (x3 : Int32) : Nat → vMem → Int32 → Int32 → Option (Int32 × vMem)
  | 0, _, _, _ => none
  | n + 1, σ_3, v4, v5 => if (imin 9 x1) < v5 then (some (v4, σ_3)) else vl (fun (σ_4 : vMem) (v4_1 : Int32) => vl (v5 + 1) (fun v5_1 => f_X3_mutiny_54 a0 x1 x2 x3 n σ_4 v4_1 v5_1)) (fun k => f_X3_mutiny_68 a0 x1 x2 x3 v5 k FU σ_3 v4 0)
def f_X3_mutiny (σ : vMem) (a0 : Nat) (x1 : Int32) (x2 : Int32) (x3 : Int32) : Option (Int32 × vMem) := cko σ a0 [3] (vl (si σ a0 0 0) (fun σ_1 => bp (f_X3_in σ_1 (Int32.toInt64 x1) 1 20) (fun r => if r = 0 then (some ((-1), σ_1)) else bp (f_X3_in σ_1 (Int32.toInt64 x2) 1 20) (fun r_1 => if r_1 = 0 then (some ((-1), σ_1)) else bp (f_X3_in σ_1 (Int32.toInt64 x3) 1 18) (fun r_2 => if ¬ r_2 = 0 then (cko σ_1 a0 [3] (vl (si σ_1 a0 1 0) (fun σ_2 => f_X3_mutiny_54 a0 x1 x2 x3 FU σ_2 0 0))) else some ((-1), σ_1))))))
abbrev P_X3_mutiny (l : Launch) (d n0 s0 : Nat) : vX → Prop := vMP l yX3_mutiny cX3_mutiny 7 (some .int) d n0 s0
theorem w_X3_mutiny_68 {l : Launch} {d n0 s0 : Nat} (hd : 2 ≤ d) (a0 : Nat) (x1 : Int32) (x2 : Int32) (x3 : Int32) (v5 : Int32) (k : vMem → Int32 → Option (Int32 × vMem)) (hk : ∀ (σ_4 : vMem), ∀ (v4_1 : Int32), V (P_X3_mutiny l d n0 s0) (vEmb eI) σ_4 131 [some (.ref a0), some (.int x1), some (.int x2), some (.int x3), some (.int v4_1), some (.int v5), none] [] (k σ_4 v4_1)) : ∀ (n_1 : Nat) (σ_5 : vMem) (v4_2 : Int32) (v6 : Int32), V (P_X3_mutiny l d n0 s0) (vEmb eI) σ_5 68 [some (.ref a0), some (.int x1), some (.int x2), some (.int x3), some (.int v4_2), some (.int v5), some (.int v6)] [] (f_X3_mutiny_68 a0 x1 x2 x3 v5 k n_1 σ_5 v4_2 v6) := by
  have hC : vPx (P_X3_mutiny l d n0 s0) cX3_mutiny 7 "NobodyBeenAftModel" (some .int) d := vMP_cx
  intro n_1
  induction n_1 with
  | zero =>
    intro σ_5 v4_2 v6
    exact V_none
  | succ n_1 ih =>
    intro σ_5 v4_2 v6
    refine V_eq (f_X3_mutiny_68.eq_2 ..) ?_
    refine V_iload hC dX3_mutiny_68 rfl ?_
    refine V_bipush (v := 9) hC dX3_mutiny_70 rfl ?_
    refine V_iload_n hC dX3_mutiny_72 rfl ?_
    refine V_mmin hC dX3_mutiny_73 q1459 q327 q90 q328 (Nat.le_of_ble_eq_true rfl) ?_
    refine V_icmp_gt (tgt := 131) hC dX3_mutiny_76 (by decide) ?_ ?_
    · refine V_clr [6] (ls' := [some (.ref a0), some (.int x1), some (.int x2), some (.int x3), some (.int v4_2), some (.int v5), none]) rfl ?_
      exact hk σ_5 v4_2
    · refine V_iload_n hC dX3_mutiny_79 rfl ?_
      refine V_iload hC dX3_mutiny_80 rfl ?_
      refine V_iload hC dX3_mutiny_82 rfl ?_
      refine V_iload_n hC dX3_mutiny_84 rfl ?_
      refine V_callS_PI (As := [.int x1, .int v5, .int v6, .int x3]) (rest := []) (d' := 1) hC dX3_mutiny_85 4 (lw_S q1927 q1928 q87 q1929) (by decide +kernel) rfl rfl (Nat.le_of_ble_eq_true rfl) (Nat.le_trans (by decide) hd) (by decide) vMP_l (fun _ h => c_X3_isRest (Nat.le_refl _) h) (fun r_3 => ?_)
      refine V_let (B := fun k_1 => ∀ (σ_6 : vMem), ∀ (v4_3 : Int32), V (P_X3_mutiny l d n0 s0) (vEmb eI) σ_6 125 [some (.ref a0), some (.int x1), some (.int x2), some (.int x3), some (.int v4_3), some (.int v5), some (.int v6)] [] (k_1 σ_6 v4_3)) ?_ ?_
      · intro σ_6 v4_3
        refine V_iincL (v := v6 + 1) (ls' := fun v6_1 => [some (.ref a0), some (.int x1), some (.int x2), some (.int x3), some (.int v4_3), some (.int v5), some (.int v6_1)]) hC dX3_mutiny_125 rfl (by decide) rfl rfl (fun _ => rfl) (fun v6_1 => ?_)
        refine V_goto (tgt := 68) hC dX3_mutiny_128 (by decide) ?_
        exact ih σ_6 v4_3 v6_1
      · intro k_1 hk_1
        refine V_if_eq (tgt := 125) hC dX3_mutiny_88 (by decide) ?_ ?_
        · exact hk_1 σ_5 v4_2
        · refine V_iload_n hC dX3_mutiny_91 rfl ?_
          refine V_iload hC dX3_mutiny_92 rfl ?_
          refine V_iload hC dX3_mutiny_94 rfl ?_
          refine V_iload_n hC dX3_mutiny_96 rfl ?_
          refine V_callS_PI (As := [.int x2, .int v6, .int v5, .int x3]) (rest := []) (d' := 1) hC dX3_mutiny_97 4 (lw_S q1927 q1928 q87 q1929) (by decide +kernel) rfl rfl (Nat.le_of_ble_eq_true rfl) (Nat.le_trans (by decide) hd) (by decide) vMP_l (fun _ h => c_X3_isRest (Nat.le_refl _) h) (fun r_4 => ?_)
          refine V_if_eq (tgt := 125) hC dX3_mutiny_100 (by decide) ?_ ?_
          · exact hk_1 σ_5 v4_2
          · refine V_iload hC dX3_mutiny_103 rfl ?_
            refine V_let (B := fun k_2 => ∀ (σ_7 : vMem), V (P_X3_mutiny l d n0 s0) (vEmb eI) σ_7 122 [some (.ref a0), some (.int x1), some (.int x2), some (.int x3), some (.int v4_2), some (.int v5), some (.int v6)] [] (k_2 σ_7)) ?_ ?_
            · intro σ_7
              refine V_iincL (v := v4_2 + 1) (ls' := fun v4_4 => [some (.ref a0), some (.int x1), some (.int x2), some (.int x3), some (.int v4_4), some (.int v5), some (.int v6)]) hC dX3_mutiny_122 rfl (by decide) rfl rfl (fun _ => rfl) (fun v4_4 => ?_)
              exact hk_1 σ_7 v4_4
            · intro k_2 hk_2
              refine V_if_ne (tgt := 122) hC dX3_mutiny_105 (by decide) ?_ ?_
              · exact hk_2 σ_5
              · refine V_aload_n hC dX3_mutiny_108 rfl ?_
                refine V_iload hC dX3_mutiny_109 rfl ?_
                refine V_i2l hC dX3_mutiny_111 ?_
                refine V_cko (fun hm => V_callV_V (c := 3) (As := [.long (Int32.toInt64 v5)]) (rest := []) (d' := 0) hC dX3_mutiny_112 1 (lw_V q1697 q1699 qs59 q87 q1700) (by decide +kernel) (List.mem_singleton.mp hm) (by decide) (by decide) rfl rfl rfl (Nat.le_of_ble_eq_true rfl) (Nat.le_trans (by decide) hd) (by decide) vMP_l (fun _ h => c_X3_enters (Nat.le_refl _) h) (fun σ_8 => ?_))
                refine V_aload_n hC dX3_mutiny_115 rfl ?_
                refine V_iload hC dX3_mutiny_116 rfl ?_
                refine V_i2l hC dX3_mutiny_118 ?_
                refine V_cko (fun hm => V_callV_V (c := 3) (As := [.long (Int32.toInt64 v6)]) (rest := []) (d' := 0) hC dX3_mutiny_119 1 (lw_V q1697 q1699 qs59 q87 q1700) (by decide +kernel) (List.mem_singleton.mp hm) (by decide) (by decide) rfl rfl rfl (Nat.le_of_ble_eq_true rfl) (Nat.le_trans (by decide) hd) (by decide) vMP_l (fun _ h => c_X3_enters (Nat.le_refl _) h) (fun σ_9 => ?_))
                exact hk_2 σ_9
theorem w_X3_mutiny_54 {l : Launch} {d n0 s0 : Nat} (hd : 2 ≤ d) (a0 : Nat) (x1 : Int32) (x2 : Int32) (x3 : Int32)  : ∀ (n : Nat) (σ_3 : vMem) (v4 : Int32) (v5 : Int32), V (P_X3_mutiny l d n0 s0) (vEmb eI) σ_3 54 [some (.ref a0), some (.int x1), some (.int x2), some (.int x3), some (.int v4), some (.int v5), none] [] (f_X3_mutiny_54 a0 x1 x2 x3 n σ_3 v4 v5) := by
  have hC : vPx (P_X3_mutiny l d n0 s0) cX3_mutiny 7 "NobodyBeenAftModel" (some .int) d := vMP_cx
  intro n
  induction n with
  | zero =>
    intro σ_3 v4 v5
    exact V_none
  | succ n ih =>
    intro σ_3 v4 v5
    refine V_eq (f_X3_mutiny_54.eq_2 ..) ?_
    refine V_iload hC dX3_mutiny_54 rfl ?_
    refine V_bipush (v := 9) hC dX3_mutiny_56 rfl ?_
    refine V_iload_n hC dX3_mutiny_58 rfl ?_
    refine V_mmin hC dX3_mutiny_59 q1459 q327 q90 q328 (Nat.le_of_ble_eq_true rfl) ?_
    refine V_icmp_gt (tgt := 137) hC dX3_mutiny_62 (by decide) ?_ ?_
    · refine V_iload hC dX3_mutiny_137 rfl ?_
      exact V_ireturn dX3_mutiny_139 rfl rfl
    · refine V_iconst (v := 0) hC dX3_mutiny_65 rfl ?_
      refine V_istore (ls' := [some (.ref a0), some (.int x1), some (.int x2), some (.int x3), some (.int v4), some (.int v5), some (.int 0)]) hC dX3_mutiny_66 (by decide) rfl rfl ?_
      refine V_let (B := fun k => ∀ (σ_4 : vMem), ∀ (v4_1 : Int32), V (P_X3_mutiny l d n0 s0) (vEmb eI) σ_4 131 [some (.ref a0), some (.int x1), some (.int x2), some (.int x3), some (.int v4_1), some (.int v5), none] [] (k σ_4 v4_1)) ?_ ?_
      · intro σ_4 v4_1
        refine V_iincL (v := v5 + 1) (ls' := fun v5_1 => [some (.ref a0), some (.int x1), some (.int x2), some (.int x3), some (.int v4_1), some (.int v5_1), none]) hC dX3_mutiny_131 rfl (by decide) rfl rfl (fun _ => rfl) (fun v5_1 => ?_)
        refine V_goto (tgt := 54) hC dX3_mutiny_134 (by decide) ?_
        exact ih σ_4 v4_1 v5_1
      · intro k hk
        exact (w_X3_mutiny_68 hd a0 x1 x2 x3 v5 k hk) FU σ_3 v4 0
theorem w_X3_mutiny {l : Launch} {d n0 s0 : Nat} (hd : 2 ≤ d) (σ : vMem) (a0 : Nat) (x1 : Int32) (x2 : Int32) (x3 : Int32) : V (P_X3_mutiny l d n0 s0) (vEmb eI) σ 0 [some (.ref a0), some (.int x1), some (.int x2), some (.int x3), none, none, none] [] (f_X3_mutiny σ a0 x1 x2 x3) := by
  have hC : vPx (P_X3_mutiny l d n0 s0) cX3_mutiny 7 "NobodyBeenAftModel" (some .int) d := vMP_cx
  refine V_eq (f_X3_mutiny.eq_1 ..) ?_
  refine V_aload_n hC dX3_mutiny_0 rfl ?_
  refine V_iconst (v := 0) hC dX3_mutiny_1 rfl ?_
  refine p_X3_103 hC dX3_mutiny_2 (fun σ_1 => ?_)
  refine V_iload_n hC dX3_mutiny_5 rfl ?_
  refine V_i2l hC dX3_mutiny_6 ?_
  refine V_lconst (v := 1) hC dX3_mutiny_7 rfl ?_
  refine V_ldc2 hC dX3_mutiny_8 q1925 ?_
  refine V_callS_PI (As := [.long (Int32.toInt64 x1), .long 1, .long 20]) (rest := []) (d' := 0) hC dX3_mutiny_11 3 (lw_S q1448 q1449 q87 q1450) (by decide +kernel) rfl rfl (Nat.le_of_ble_eq_true rfl) (Nat.le_trans (by decide) hd) (by decide) vMP_l (fun _ h => c_X3_in (Nat.le_refl _) h) (fun r => ?_)
  refine V_if_eq (tgt := 41) hC dX3_mutiny_14 (by decide) ?_ ?_
  · refine V_iconst (v := (-1)) hC dX3_mutiny_41 rfl ?_
    exact V_ireturn dX3_mutiny_42 rfl rfl
  · refine V_iload_n hC dX3_mutiny_17 rfl ?_
    refine V_i2l hC dX3_mutiny_18 ?_
    refine V_lconst (v := 1) hC dX3_mutiny_19 rfl ?_
    refine V_ldc2 hC dX3_mutiny_20 q1925 ?_
    refine V_callS_PI (As := [.long (Int32.toInt64 x2), .long 1, .long 20]) (rest := []) (d' := 0) hC dX3_mutiny_23 3 (lw_S q1448 q1449 q87 q1450) (by decide +kernel) rfl rfl (Nat.le_of_ble_eq_true rfl) (Nat.le_trans (by decide) hd) (by decide) vMP_l (fun _ h => c_X3_in (Nat.le_refl _) h) (fun r_1 => ?_)
    refine V_if_eq (tgt := 41) hC dX3_mutiny_26 (by decide) ?_ ?_
    · refine V_iconst (v := (-1)) hC dX3_mutiny_41 rfl ?_
      exact V_ireturn dX3_mutiny_42 rfl rfl
    · refine V_iload_n hC dX3_mutiny_29 rfl ?_
      refine V_i2l hC dX3_mutiny_30 ?_
      refine V_lconst (v := 1) hC dX3_mutiny_31 rfl ?_
      refine V_ldc2 hC dX3_mutiny_32 q1926 ?_
      refine V_callS_PI (As := [.long (Int32.toInt64 x3), .long 1, .long 18]) (rest := []) (d' := 0) hC dX3_mutiny_35 3 (lw_S q1448 q1449 q87 q1450) (by decide +kernel) rfl rfl (Nat.le_of_ble_eq_true rfl) (Nat.le_trans (by decide) hd) (by decide) vMP_l (fun _ h => c_X3_in (Nat.le_refl _) h) (fun r_2 => ?_)
      refine V_if_ne (tgt := 43) hC dX3_mutiny_38 (by decide) ?_ ?_
      · refine V_iconst (v := 0) hC dX3_mutiny_43 rfl ?_
        refine V_istore (ls' := [some (.ref a0), some (.int x1), some (.int x2), some (.int x3), some (.int 0), none, none]) hC dX3_mutiny_44 (by decide) rfl rfl ?_
        refine V_aload_n hC dX3_mutiny_46 rfl ?_
        refine V_iconst (v := 0) hC dX3_mutiny_47 rfl ?_
        refine p_X3_110 hC dX3_mutiny_48 (fun σ_2 => ?_)
        refine V_iconst (v := 0) hC dX3_mutiny_51 rfl ?_
        refine V_istore (ls' := [some (.ref a0), some (.int x1), some (.int x2), some (.int x3), some (.int 0), some (.int 0), none]) hC dX3_mutiny_52 (by decide) rfl rfl ?_
        exact (w_X3_mutiny_54 hd a0 x1 x2 x3) FU σ_2 0 0
      · refine V_iconst (v := (-1)) hC dX3_mutiny_41 rfl ?_
        exact V_ireturn dX3_mutiny_42 rfl rfl
theorem c_X3_mutiny {l : Launch} {d : Nat} (hd : 2 ≤ d) {σ : vMem} {a0 : Nat} {x1 : Int32} {x2 : Int32} {x3 : Int32} {r : Int32 × vMem} (h : f_X3_mutiny σ a0 x1 x2 x3 = some r) : vOk l yX3_mutiny cX3_mutiny 7 (some .int) d [.ref a0, .int x1, .int x2, .int x3] σ (.inl ((eI).1 r, (eI).2 r)) := V_method (em := eI) [some (.ref a0), some (.int x1), some (.int x2), some (.int x3), none, none, none] (by decide +kernel) rfl (Nat.le_of_ble_eq_true rfl) (w_X3_mutiny hd σ a0 x1 x2 x3) h
/-! NobodyBeenAftModel.chance(III)I -/
def f_X3_chance_52 (a0 : Nat) (x1 : Int32) (x2 : Int32) (x3 : Int32) (k : vMem → Int64 → Int64 → Option (Int32 × vMem)) : Nat → vMem → Int64 → Int64 → Int32 → Option (Int32 × vMem)
  | 0, _, _, _, _ => none
  | n + 1, σ_4, v4_1, v6_1, v8 => if x1 ≤ v8 then (k σ_4 v4_1 v6_1) else cko σ_4 a0 [3] (dr (gr σ_4 a0 14) (fun b => cka σ_4 b 105 0 (cko σ_4 a0 [3] (bd (f_X3_delayAt σ_4 a0 (gi σ_4 b (Int32.toNatClampNeg 0))) (fun r_3 σ_5 => if r_3 ≤ x3 then (k σ_5 v4_1 v6_1) else vl (v4_1 * (Int32.toInt64 (10 - x2))) (fun v4_2 => vl (v6_1 * 10) (fun v6_2 => vl (v8 + 1) (fun v8_1 => f_X3_chance_52 a0 x1 x2 x3 k n σ_5 v4_2 v6_2 v8_1))))))))
def f_X3_chance (σ : vMem) (a0 : Nat) (x1 : Int32) (x2 : Int32) (x3 : Int32) : Option (Int32 × vMem) := cko σ a0 [3] (vl (si σ a0 0 0) (fun σ_1 => bp (f_X3_in σ_1 (Int32.toInt64 x1) 1 12) (fun r => if r = 0 then (some ((-1), σ_1)) else bp (f_X3_in σ_1 (Int32.toInt64 x2) 0 10) (fun r_1 => if r_1 = 0 then (some ((-1), σ_1)) else bp (f_X3_in σ_1 (Int32.toInt64 x3) 0 12) (fun r_2 => if ¬ r_2 = 0 then (vl (fun (σ_2 : vMem) (v4 : Int64) (v6 : Int64) => cko σ_2 a0 [3] (bv (f_X3_tellsFraction σ_2 a0 v4 v6) (fun σ_3 => some (0, σ_3)))) (fun k => f_X3_chance_52 a0 x1 x2 x3 k FU σ_1 1 1 0)) else some ((-1), σ_1))))))
abbrev P_X3_chance (l : Launch) (d n0 s0 : Nat) : vX → Prop := vMP l yX3_chance cX3_chance 9 (some .int) d n0 s0
theorem w_X3_chance_52 {l : Launch} {d n0 s0 : Nat} (hd : 102 ≤ d) (a0 : Nat) (x1 : Int32) (x2 : Int32) (x3 : Int32) (k : vMem → Int64 → Int64 → Option (Int32 × vMem)) (hk : ∀ (σ_2 : vMem), ∀ (v4 : Int64), ∀ (v6 : Int64), V (P_X3_chance l d n0 s0) (vEmb eI) σ_2 96 [some (.ref a0), none, none, none, some (.long v4), none, some (.long v6), none, none] [] (k σ_2 v4 v6)) : ∀ (n : Nat) (σ_4 : vMem) (v4_1 : Int64) (v6_1 : Int64) (v8 : Int32), V (P_X3_chance l d n0 s0) (vEmb eI) σ_4 52 [some (.ref a0), some (.int x1), some (.int x2), some (.int x3), some (.long v4_1), none, some (.long v6_1), none, some (.int v8)] [] (f_X3_chance_52 a0 x1 x2 x3 k n σ_4 v4_1 v6_1 v8) := by
  have hC : vPx (P_X3_chance l d n0 s0) cX3_chance 9 "NobodyBeenAftModel" (some .int) d := vMP_cx
  intro n
  induction n with
  | zero =>
    intro σ_4 v4_1 v6_1 v8
    exact V_none
  | succ n ih =>
    intro σ_4 v4_1 v6_1 v8
    refine V_eq (f_X3_chance_52.eq_2 ..) ?_
    refine V_iload hC dX3_chance_52 rfl ?_
    refine V_iload_n hC dX3_chance_54 rfl ?_
    refine V_icmp_ge (tgt := 96) hC dX3_chance_55 (by decide) ?_ ?_
    · refine V_clr [1, 2, 3, 8] (ls' := [some (.ref a0), none, none, none, some (.long v4_1), none, some (.long v6_1), none, none]) rfl ?_
      exact hk σ_4 v4_1 v6_1
    · refine V_iload_n hC dX3_chance_58 rfl ?_
      refine V_aload_n hC dX3_chance_59 rfl ?_
      refine V_aload_n hC dX3_chance_60 rfl ?_
      refine g_X3_34 hC dX3_chance_61 (fun b => ?_)
      refine V_iconst (v := 0) hC dX3_chance_64 rfl ?_
      refine V_iald hC dX3_chance_65 ?_
      refine V_cko (fun hm => V_callV_I (c := 3) (As := [.int (gi σ_4 b (Int32.toNatClampNeg 0))]) (rest := [.int x3]) (d' := 3) hC dX3_chance_66 1 (lw_V q1621 q1623 qs47 q87 q1624) (by decide +kernel) (List.mem_singleton.mp hm) (by decide) (by decide) rfl rfl rfl (Nat.le_of_ble_eq_true rfl) (Nat.le_trans (by decide) hd) (by decide) vMP_l (fun _ h => c_X3_delayAt (Nat.le_refl _) h) (fun r_3 σ_5 => ?_))
      refine V_icmp_ge (tgt := 96) hC dX3_chance_69 (by decide) ?_ ?_
      · refine V_clr [1, 2, 3, 8] (ls' := [some (.ref a0), none, none, none, some (.long v4_1), none, some (.long v6_1), none, none]) rfl ?_
        exact hk σ_5 v4_1 v6_1
      · refine V_lload hC dX3_chance_72 rfl ?_
        refine V_bipush (v := 10) hC dX3_chance_74 rfl ?_
        refine V_iload_n hC dX3_chance_76 rfl ?_
        refine V_isub hC dX3_chance_77 ?_
        refine V_i2l hC dX3_chance_78 ?_
        refine V_lmul hC dX3_chance_79 ?_
        refine V_lstoreL (ls' := fun v4_2 => [some (.ref a0), some (.int x1), some (.int x2), some (.int x3), some (.long v4_2), none, some (.long v6_1), none, some (.int v8)]) hC dX3_chance_80 (by decide) rfl (fun _ => rfl) (fun v4_2 => ?_)
        refine V_lload hC dX3_chance_82 rfl ?_
        refine V_ldc2 hC dX3_chance_84 q1801 ?_
        refine V_lmul hC dX3_chance_87 ?_
        refine V_lstoreL (ls' := fun v6_2 => [some (.ref a0), some (.int x1), some (.int x2), some (.int x3), some (.long v4_2), none, some (.long v6_2), none, some (.int v8)]) hC dX3_chance_88 (by decide) rfl (fun _ => rfl) (fun v6_2 => ?_)
        refine V_iincL (v := v8 + 1) (ls' := fun v8_1 => [some (.ref a0), some (.int x1), some (.int x2), some (.int x3), some (.long v4_2), none, some (.long v6_2), none, some (.int v8_1)]) hC dX3_chance_90 rfl (by decide) rfl rfl (fun _ => rfl) (fun v8_1 => ?_)
        refine V_goto (tgt := 52) hC dX3_chance_93 (by decide) ?_
        exact ih σ_5 v4_2 v6_2 v8_1
theorem w_X3_chance {l : Launch} {d n0 s0 : Nat} (hd : 102 ≤ d) (σ : vMem) (a0 : Nat) (x1 : Int32) (x2 : Int32) (x3 : Int32) : V (P_X3_chance l d n0 s0) (vEmb eI) σ 0 [some (.ref a0), some (.int x1), some (.int x2), some (.int x3), none, none, none, none, none] [] (f_X3_chance σ a0 x1 x2 x3) := by
  have hC : vPx (P_X3_chance l d n0 s0) cX3_chance 9 "NobodyBeenAftModel" (some .int) d := vMP_cx
  refine V_eq (f_X3_chance.eq_1 ..) ?_
  refine V_aload_n hC dX3_chance_0 rfl ?_
  refine V_iconst (v := 0) hC dX3_chance_1 rfl ?_
  refine p_X3_103 hC dX3_chance_2 (fun σ_1 => ?_)
  refine V_iload_n hC dX3_chance_5 rfl ?_
  refine V_i2l hC dX3_chance_6 ?_
  refine V_lconst (v := 1) hC dX3_chance_7 rfl ?_
  refine V_ldc2 hC dX3_chance_8 q1796 ?_
  refine V_callS_PI (As := [.long (Int32.toInt64 x1), .long 1, .long 12]) (rest := []) (d' := 0) hC dX3_chance_11 3 (lw_S q1448 q1449 q87 q1450) (by decide +kernel) rfl rfl (Nat.le_of_ble_eq_true rfl) (Nat.le_trans (by decide) hd) (by decide) vMP_l (fun _ h => c_X3_in (Nat.le_refl _) h) (fun r => ?_)
  refine V_if_eq (tgt := 41) hC dX3_chance_14 (by decide) ?_ ?_
  · refine V_iconst (v := (-1)) hC dX3_chance_41 rfl ?_
    exact V_ireturn dX3_chance_42 rfl rfl
  · refine V_iload_n hC dX3_chance_17 rfl ?_
    refine V_i2l hC dX3_chance_18 ?_
    refine V_lconst (v := 0) hC dX3_chance_19 rfl ?_
    refine V_ldc2 hC dX3_chance_20 q1801 ?_
    refine V_callS_PI (As := [.long (Int32.toInt64 x2), .long 0, .long 10]) (rest := []) (d' := 0) hC dX3_chance_23 3 (lw_S q1448 q1449 q87 q1450) (by decide +kernel) rfl rfl (Nat.le_of_ble_eq_true rfl) (Nat.le_trans (by decide) hd) (by decide) vMP_l (fun _ h => c_X3_in (Nat.le_refl _) h) (fun r_1 => ?_)
    refine V_if_eq (tgt := 41) hC dX3_chance_26 (by decide) ?_ ?_
    · refine V_iconst (v := (-1)) hC dX3_chance_41 rfl ?_
      exact V_ireturn dX3_chance_42 rfl rfl
    · refine V_iload_n hC dX3_chance_29 rfl ?_
      refine V_i2l hC dX3_chance_30 ?_
      refine V_lconst (v := 0) hC dX3_chance_31 rfl ?_
      refine V_ldc2 hC dX3_chance_32 q1796 ?_
      refine V_callS_PI (As := [.long (Int32.toInt64 x3), .long 0, .long 12]) (rest := []) (d' := 0) hC dX3_chance_35 3 (lw_S q1448 q1449 q87 q1450) (by decide +kernel) rfl rfl (Nat.le_of_ble_eq_true rfl) (Nat.le_trans (by decide) hd) (by decide) vMP_l (fun _ h => c_X3_in (Nat.le_refl _) h) (fun r_2 => ?_)
      refine V_if_ne (tgt := 43) hC dX3_chance_38 (by decide) ?_ ?_
      · refine V_lconst (v := 1) hC dX3_chance_43 rfl ?_
        refine V_lstore (ls' := [some (.ref a0), some (.int x1), some (.int x2), some (.int x3), some (.long 1), none, none, none, none]) hC dX3_chance_44 (by decide) rfl rfl ?_
        refine V_lconst (v := 1) hC dX3_chance_46 rfl ?_
        refine V_lstore (ls' := [some (.ref a0), some (.int x1), some (.int x2), some (.int x3), some (.long 1), none, some (.long 1), none, none]) hC dX3_chance_47 (by decide) rfl rfl ?_
        refine V_iconst (v := 0) hC dX3_chance_49 rfl ?_
        refine V_istore (ls' := [some (.ref a0), some (.int x1), some (.int x2), some (.int x3), some (.long 1), none, some (.long 1), none, some (.int 0)]) hC dX3_chance_50 (by decide) rfl rfl ?_
        refine V_let (B := fun k => ∀ (σ_2 : vMem), ∀ (v4 : Int64), ∀ (v6 : Int64), V (P_X3_chance l d n0 s0) (vEmb eI) σ_2 96 [some (.ref a0), none, none, none, some (.long v4), none, some (.long v6), none, none] [] (k σ_2 v4 v6)) ?_ ?_
        · intro σ_2 v4 v6
          refine V_aload_n hC dX3_chance_96 rfl ?_
          refine V_lload hC dX3_chance_97 rfl ?_
          refine V_lload hC dX3_chance_99 rfl ?_
          refine V_cko (fun hm => V_callV_V (c := 3) (As := [.long v4, .long v6]) (rest := []) (d' := 101) hC dX3_chance_101 2 (lw_V q1820 q1822 qs73 q87 q1823) (by decide +kernel) (List.mem_singleton.mp hm) (by decide) (by decide) rfl rfl rfl (Nat.le_of_ble_eq_true rfl) (Nat.le_trans (by decide) hd) (by decide) vMP_l (fun _ h => c_X3_tellsFraction (Nat.le_refl _) h) (fun σ_3 => ?_))
          refine V_iconst (v := 0) hC dX3_chance_104 rfl ?_
          exact V_ireturn dX3_chance_105 rfl rfl
        · intro k hk
          exact (w_X3_chance_52 hd a0 x1 x2 x3 k hk) FU σ_1 1 1 0
      · refine V_iconst (v := (-1)) hC dX3_chance_41 rfl ?_
        exact V_ireturn dX3_chance_42 rfl rfl
theorem c_X3_chance {l : Launch} {d : Nat} (hd : 102 ≤ d) {σ : vMem} {a0 : Nat} {x1 : Int32} {x2 : Int32} {x3 : Int32} {r : Int32 × vMem} (h : f_X3_chance σ a0 x1 x2 x3 = some r) : vOk l yX3_chance cX3_chance 9 (some .int) d [.ref a0, .int x1, .int x2, .int x3] σ (.inl ((eI).1 r, (eI).2 r)) := V_method (em := eI) [some (.ref a0), some (.int x1), some (.int x2), some (.int x3), none, none, none, none, none] (by decide +kernel) rfl (Nat.le_of_ble_eq_true rfl) (w_X3_chance hd σ a0 x1 x2 x3) h
/-! NobodyBeenAftModel.voyages(II)I -/
def f_X3_voyages_35 (a0 : Nat) (x2 : Int32) (k : vMem → Int32 → Option (Int32 × vMem)) : Nat → vMem → Int32 → Int32 → Int32 → Option (Int32 × vMem)
  | 0, _, _, _, _ => none
  | n + 1, σ_8, v3, v4_1, v5 => if x2 ≤ v5 then (k σ_8 v4_1) else vl ((v3 * 1103515245) + 12345) (fun v3_1 => vl (((Int32.toUInt32 v3_1 >>> (Int32.toUInt32 16 &&& Int32.toUInt32 31)).toInt32) - (((Int32.toUInt32 v3_1 >>> (Int32.toUInt32 16 &&& Int32.toUInt32 31)).toInt32) / 4) * 4) (fun v6 => vl (fun (σ_9 : vMem) (v4_2 : Int32) => cko σ_9 a0 [3] (dr (gr σ_9 a0 15) (fun b_1 => cko σ_9 a0 [3] (bv (f_X3_stepGoes σ_9 a0 b_1) (fun σ_10 => vl (v5 + 1) (fun v5_1 => f_X3_voyages_35 a0 x2 k n σ_10 v3_1 v4_2 v5_1)))))) (fun k_1 => if 2 ≤ v6 then (k_1 σ_8 v4_1) else cko σ_8 a0 [3] (dr (gr σ_8 a0 15) (fun b_2 => cko σ_8 a0 [3] (bd (f_X3_gives σ_8 a0 b_2 ((2 * v6) - 1)) (fun r_1 σ_11 => vl (fun (y : Int32) => bp (f_X3_flag σ_11 y) (fun r_2 => vl (v4_1 + r_2) (fun v4_3 => k_1 σ_11 v4_3))) (fun k_2 => if r_1 < 0 then (k_2 0) else k_2 1))))))))
def f_X3_voyages (σ : vMem) (a0 : Nat) (x1 : Int32) (x2 : Int32) : Option (Int32 × vMem) := cko σ a0 [3] (vl (si σ a0 0 0) (fun σ_1 => bp (f_X3_in σ_1 (Int32.toInt64 x2) 1 60) (fun r => if ¬ r = 0 then (cko σ_1 a0 [3] (bv (f_X3_puts σ_1 a0) (fun σ_2 => cko σ_2 a0 [3] (bv (f_X3_startsCounting σ_2 a0) (fun σ_3 => vl (fun (σ_4 : vMem) (v4 : Int32) => cko σ_4 a0 [3] (vl (si σ_4 a0 1 0) (fun σ_5 => cko σ_5 a0 [3] (dr (gr σ_5 a0 15) (fun b => cka σ_5 b 105 1 (cko σ_5 a0 [3] (bv (f_X3_enters σ_5 a0 (Int32.toInt64 (gi σ_5 b (Int32.toNatClampNeg 1)))) (fun σ_6 => cko σ_6 a0 [3] (bv (f_X3_enters σ_6 a0 (Int32.toInt64 v4)) (fun σ_7 => cko σ_7 a0 [3] (some ((gi σ_7 a0 31), σ_7)))))))))))) (fun k => f_X3_voyages_35 a0 x2 k FU σ_3 x1 0 0)))))) else some ((-1), σ_1))))
abbrev P_X3_voyages (l : Launch) (d n0 s0 : Nat) : vX → Prop := vMP l yX3_voyages cX3_voyages 7 (some .int) d n0 s0
theorem w_X3_voyages_35 {l : Launch} {d n0 s0 : Nat} (hd : 5 ≤ d) (a0 : Nat) (x2 : Int32) (k : vMem → Int32 → Option (Int32 × vMem)) (hk : ∀ (σ_4 : vMem), ∀ (v4 : Int32), V (P_X3_voyages l d n0 s0) (vEmb eI) σ_4 109 [some (.ref a0), none, none, none, some (.int v4), none, none] [] (k σ_4 v4)) : ∀ (n : Nat) (σ_8 : vMem) (v3 : Int32) (v4_1 : Int32) (v5 : Int32), V (P_X3_voyages l d n0 s0) (vEmb eI) σ_8 35 [some (.ref a0), none, some (.int x2), some (.int v3), some (.int v4_1), some (.int v5), none] [] (f_X3_voyages_35 a0 x2 k n σ_8 v3 v4_1 v5) := by
  have hC : vPx (P_X3_voyages l d n0 s0) cX3_voyages 7 "NobodyBeenAftModel" (some .int) d := vMP_cx
  intro n
  induction n with
  | zero =>
    intro σ_8 v3 v4_1 v5
    exact V_none
  | succ n ih =>
    intro σ_8 v3 v4_1 v5
    refine V_eq (f_X3_voyages_35.eq_2 ..) ?_
    refine V_iload hC dX3_voyages_35 rfl ?_
    refine V_iload_n hC dX3_voyages_37 rfl ?_
    refine V_icmp_ge (tgt := 109) hC dX3_voyages_38 (by decide) ?_ ?_
    · refine V_clr [2, 3, 5] (ls' := [some (.ref a0), none, none, none, some (.int v4_1), none, none]) rfl ?_
      exact hk σ_8 v4_1
    · refine V_iload_n hC dX3_voyages_41 rfl ?_
      refine V_ldcw hC dX3_voyages_42 q1941 ?_
      refine V_imul hC dX3_voyages_45 ?_
      refine V_sipush (v := 12345) hC dX3_voyages_46 rfl ?_
      refine V_iadd hC dX3_voyages_49 ?_
      refine V_istore_nL (ls' := fun v3_1 => [some (.ref a0), none, some (.int x2), some (.int v3_1), some (.int v4_1), some (.int v5), none]) hC dX3_voyages_50 (by decide) rfl (fun _ => rfl) (fun v3_1 => ?_)
      refine V_iload_n hC dX3_voyages_51 rfl ?_
      refine V_bipush (v := 16) hC dX3_voyages_52 rfl ?_
      refine V_iushr hC dX3_voyages_54 ?_
      refine V_iconst (v := 4) hC dX3_voyages_55 rfl ?_
      refine V_irem hC dX3_voyages_56 (by decide) ?_
      refine V_istoreL (ls' := fun v6 => [some (.ref a0), none, some (.int x2), some (.int v3_1), some (.int v4_1), some (.int v5), some (.int v6)]) hC dX3_voyages_57 (by decide) rfl (fun _ => rfl) (fun v6 => ?_)
      refine V_iload hC dX3_voyages_59 rfl ?_
      refine V_iconst (v := 2) hC dX3_voyages_61 rfl ?_
      refine V_let (B := fun k_1 => ∀ (σ_9 : vMem), ∀ (v4_2 : Int32), V (P_X3_voyages l d n0 s0) (vEmb eI) σ_9 95 [some (.ref a0), none, some (.int x2), some (.int v3_1), some (.int v4_2), some (.int v5), none] [] (k_1 σ_9 v4_2)) ?_ ?_
      · intro σ_9 v4_2
        refine V_aload_n hC dX3_voyages_95 rfl ?_
        refine V_aload_n hC dX3_voyages_96 rfl ?_
        refine g_X3_37 hC dX3_voyages_97 (fun b_1 => ?_)
        refine V_cko (fun hm => V_callV_V (c := 3) (As := [.ref b_1]) (rest := []) (d' := 2) hC dX3_voyages_100 1 (lw_V q1683 q1685 qs57 q87 q1686) (by decide +kernel) (List.mem_singleton.mp hm) (by decide) (by decide) rfl rfl rfl (Nat.le_of_ble_eq_true rfl) (Nat.le_trans (by decide) hd) (by decide) vMP_l (fun _ h => c_X3_stepGoes (Nat.le_refl _) h) (fun σ_10 => ?_))
        refine V_iincL (v := v5 + 1) (ls' := fun v5_1 => [some (.ref a0), none, some (.int x2), some (.int v3_1), some (.int v4_2), some (.int v5_1), none]) hC dX3_voyages_103 rfl (by decide) rfl rfl (fun _ => rfl) (fun v5_1 => ?_)
        refine V_goto (tgt := 35) hC dX3_voyages_106 (by decide) ?_
        exact ih σ_10 v3_1 v4_2 v5_1
      · intro k_1 hk_1
        refine V_icmp_ge (tgt := 95) hC dX3_voyages_62 (by decide) ?_ ?_
        · refine V_clr [6] (ls' := [some (.ref a0), none, some (.int x2), some (.int v3_1), some (.int v4_1), some (.int v5), none]) rfl ?_
          exact hk_1 σ_8 v4_1
        · refine V_iload hC dX3_voyages_65 rfl ?_
          refine V_aload_n hC dX3_voyages_67 rfl ?_
          refine V_aload_n hC dX3_voyages_68 rfl ?_
          refine g_X3_37 hC dX3_voyages_69 (fun b_2 => ?_)
          refine V_iconst (v := 2) hC dX3_voyages_72 rfl ?_
          refine V_iload hC dX3_voyages_73 rfl ?_
          refine V_imul hC dX3_voyages_75 ?_
          refine V_iconst (v := 1) hC dX3_voyages_76 rfl ?_
          refine V_isub hC dX3_voyages_77 ?_
          refine V_cko (fun hm => V_callV_I (c := 3) (As := [.ref b_2, .int ((2 * v6) - 1)]) (rest := [.int v4_1]) (d' := 4) hC dX3_voyages_78 2 (lw_V q1640 q1642 qs50 q87 q1643) (by decide +kernel) (List.mem_singleton.mp hm) (by decide) (by decide) rfl rfl rfl (Nat.le_of_ble_eq_true rfl) (Nat.le_trans (by decide) hd) (by decide) vMP_l (fun _ h => c_X3_gives (Nat.le_refl _) h) (fun r_1 σ_11 => ?_))
          refine V_let (B := fun k_2 => ∀ (y : Int32), V (P_X3_voyages l d n0 s0) (vEmb eI) σ_11 89 [some (.ref a0), none, some (.int x2), some (.int v3_1), none, some (.int v5), none] [.int y, .int v4_1] (k_2 y)) ?_ ?_
          · intro y
            refine V_callS_PI (As := [.int y]) (rest := [.int v4_1]) (d' := 0) hC dX3_voyages_89 1 (lw_S q1478 q1479 q87 q1480) (by decide +kernel) rfl rfl (Nat.le_of_ble_eq_true rfl) (Nat.le_trans (by decide) hd) (by decide) vMP_l (fun _ h => c_X3_flag (Nat.le_refl _) h) (fun r_2 => ?_)
            refine V_iadd hC dX3_voyages_92 ?_
            refine V_istoreL (ls' := fun v4_3 => [some (.ref a0), none, some (.int x2), some (.int v3_1), some (.int v4_3), some (.int v5), none]) hC dX3_voyages_93 (by decide) rfl (fun _ => rfl) (fun v4_3 => ?_)
            exact hk_1 σ_11 v4_3
          · intro k_2 hk_2
            refine V_if_lt (tgt := 88) hC dX3_voyages_81 (by decide) ?_ ?_
            · refine V_iconst (v := 0) hC dX3_voyages_88 rfl ?_
              refine V_clr [4, 6] (ls' := [some (.ref a0), none, some (.int x2), some (.int v3_1), none, some (.int v5), none]) rfl ?_
              exact hk_2 0
            · refine V_iconst (v := 1) hC dX3_voyages_84 rfl ?_
              refine V_goto (tgt := 89) hC dX3_voyages_85 (by decide) ?_
              refine V_clr [4, 6] (ls' := [some (.ref a0), none, some (.int x2), some (.int v3_1), none, some (.int v5), none]) rfl ?_
              exact hk_2 1
theorem w_X3_voyages {l : Launch} {d n0 s0 : Nat} (hd : 5 ≤ d) (σ : vMem) (a0 : Nat) (x1 : Int32) (x2 : Int32) : V (P_X3_voyages l d n0 s0) (vEmb eI) σ 0 [some (.ref a0), some (.int x1), some (.int x2), none, none, none, none] [] (f_X3_voyages σ a0 x1 x2) := by
  have hC : vPx (P_X3_voyages l d n0 s0) cX3_voyages 7 "NobodyBeenAftModel" (some .int) d := vMP_cx
  refine V_eq (f_X3_voyages.eq_1 ..) ?_
  refine V_aload_n hC dX3_voyages_0 rfl ?_
  refine V_iconst (v := 0) hC dX3_voyages_1 rfl ?_
  refine p_X3_103 hC dX3_voyages_2 (fun σ_1 => ?_)
  refine V_iload_n hC dX3_voyages_5 rfl ?_
  refine V_i2l hC dX3_voyages_6 ?_
  refine V_lconst (v := 1) hC dX3_voyages_7 rfl ?_
  refine V_ldc2 hC dX3_voyages_8 q1678 ?_
  refine V_callS_PI (As := [.long (Int32.toInt64 x2), .long 1, .long 60]) (rest := []) (d' := 0) hC dX3_voyages_11 3 (lw_S q1448 q1449 q87 q1450) (by decide +kernel) rfl rfl (Nat.le_of_ble_eq_true rfl) (Nat.le_trans (by decide) hd) (by decide) vMP_l (fun _ h => c_X3_in (Nat.le_refl _) h) (fun r => ?_)
  refine V_if_ne (tgt := 19) hC dX3_voyages_14 (by decide) ?_ ?_
  · refine V_iload_n hC dX3_voyages_19 rfl ?_
    refine V_istore_n (ls' := [some (.ref a0), some (.int x1), some (.int x2), some (.int x1), none, none, none]) hC dX3_voyages_20 (by decide) rfl rfl ?_
    refine V_iconst (v := 0) hC dX3_voyages_21 rfl ?_
    refine V_istore (ls' := [some (.ref a0), some (.int x1), some (.int x2), some (.int x1), some (.int 0), none, none]) hC dX3_voyages_22 (by decide) rfl rfl ?_
    refine V_aload_n hC dX3_voyages_24 rfl ?_
    refine V_cko (fun hm => V_callV_V (c := 3) (As := []) (rest := []) (d' := 0) hC dX3_voyages_25 0 (lw_V q1718 q1720 qs62 q87 q1721) (by decide +kernel) (List.mem_singleton.mp hm) (by decide) (by decide) rfl rfl rfl (Nat.le_of_ble_eq_true rfl) (Nat.le_trans (by decide) hd) (by decide) vMP_l (fun _ h => c_X3_puts (Nat.le_refl _) h) (fun σ_2 => ?_))
    refine V_aload_n hC dX3_voyages_28 rfl ?_
    refine V_cko (fun hm => V_callV_V (c := 3) (As := []) (rest := []) (d' := 0) hC dX3_voyages_29 0 (lw_V q1679 q1681 qs56 q87 q1682) (by decide +kernel) (List.mem_singleton.mp hm) (by decide) (by decide) rfl rfl rfl (Nat.le_of_ble_eq_true rfl) (Nat.le_trans (by decide) hd) (by decide) vMP_l (fun _ h => c_X3_startsCounting (Nat.le_refl _) h) (fun σ_3 => ?_))
    refine V_iconst (v := 0) hC dX3_voyages_32 rfl ?_
    refine V_istore (ls' := [some (.ref a0), some (.int x1), some (.int x2), some (.int x1), some (.int 0), some (.int 0), none]) hC dX3_voyages_33 (by decide) rfl rfl ?_
    refine V_let (B := fun k => ∀ (σ_4 : vMem), ∀ (v4 : Int32), V (P_X3_voyages l d n0 s0) (vEmb eI) σ_4 109 [some (.ref a0), none, none, none, some (.int v4), none, none] [] (k σ_4 v4)) ?_ ?_
    · intro σ_4 v4
      refine V_aload_n hC dX3_voyages_109 rfl ?_
      refine V_iconst (v := 0) hC dX3_voyages_110 rfl ?_
      refine p_X3_110 hC dX3_voyages_111 (fun σ_5 => ?_)
      refine V_aload_n hC dX3_voyages_114 rfl ?_
      refine V_aload_n hC dX3_voyages_115 rfl ?_
      refine g_X3_37 hC dX3_voyages_116 (fun b => ?_)
      refine V_iconst (v := 1) hC dX3_voyages_119 rfl ?_
      refine V_iald hC dX3_voyages_120 ?_
      refine V_i2l hC dX3_voyages_121 ?_
      refine V_cko (fun hm => V_callV_V (c := 3) (As := [.long (Int32.toInt64 (gi σ_5 b (Int32.toNatClampNeg 1)))]) (rest := []) (d' := 0) hC dX3_voyages_122 1 (lw_V q1697 q1699 qs59 q87 q1700) (by decide +kernel) (List.mem_singleton.mp hm) (by decide) (by decide) rfl rfl rfl (Nat.le_of_ble_eq_true rfl) (Nat.le_trans (by decide) hd) (by decide) vMP_l (fun _ h => c_X3_enters (Nat.le_refl _) h) (fun σ_6 => ?_))
      refine V_aload_n hC dX3_voyages_125 rfl ?_
      refine V_iload hC dX3_voyages_126 rfl ?_
      refine V_i2l hC dX3_voyages_128 ?_
      refine V_cko (fun hm => V_callV_V (c := 3) (As := [.long (Int32.toInt64 v4)]) (rest := []) (d' := 0) hC dX3_voyages_129 1 (lw_V q1697 q1699 qs59 q87 q1700) (by decide +kernel) (List.mem_singleton.mp hm) (by decide) (by decide) rfl rfl rfl (Nat.le_of_ble_eq_true rfl) (Nat.le_trans (by decide) hd) (by decide) vMP_l (fun _ h => c_X3_enters (Nat.le_refl _) h) (fun σ_7 => ?_))
      refine V_aload_n hC dX3_voyages_132 rfl ?_
      refine g_X3_276 hC dX3_voyages_133 ?_
      exact V_ireturn dX3_voyages_136 rfl rfl
    · intro k hk
      refine V_clr [1] (ls' := [some (.ref a0), none, some (.int x2), some (.int x1), some (.int 0), some (.int 0), none]) rfl ?_
      exact (w_X3_voyages_35 hd a0 x2 k hk) FU σ_3 x1 0 0
  · refine V_iconst (v := (-1)) hC dX3_voyages_17 rfl ?_
    exact V_ireturn dX3_voyages_18 rfl rfl
theorem c_X3_voyages {l : Launch} {d : Nat} (hd : 5 ≤ d) {σ : vMem} {a0 : Nat} {x1 : Int32} {x2 : Int32} {r : Int32 × vMem} (h : f_X3_voyages σ a0 x1 x2 = some r) : vOk l yX3_voyages cX3_voyages 7 (some .int) d [.ref a0, .int x1, .int x2] σ (.inl ((eI).1 r, (eI).2 r)) := V_method (em := eI) [some (.ref a0), some (.int x1), some (.int x2), none, none, none, none] (by decide +kernel) rfl (Nat.le_of_ble_eq_true rfl) (w_X3_voyages hd σ a0 x1 x2) h
/-! NobodyBeenAftModel.keep(I)Z -/
def f_X3_keep_38 (a0 : Nat) (x1 : Int32) : Nat → vMem → Int32 → Option (Int32 × vMem)
  | 0, _, _ => none
  | n + 1, σ_4, v2 => if 57 ≤ v2 then (some (1, σ_4)) else cko σ_4 a0 [3] (dr (gr σ_4 a0 52) (fun b_2 => cko σ_4 a0 [3] (dr (gr σ_4 a0 14) (fun b_3 => cka σ_4 b_3 105 v2 (cka σ_4 b_2 105 ((57 * x1) + v2) (vl (si σ_4 b_2 (Int32.toNatClampNeg ((57 * x1) + v2)) (gi σ_4 b_3 (Int32.toNatClampNeg v2))) (fun σ_5 => vl (v2 + 1) (fun v2_1 => f_X3_keep_38 a0 x1 n σ_5 v2_1))))))))
def f_X3_keep (σ : vMem) (a0 : Nat) (x1 : Int32) : Option (Int32 × vMem) := cko σ a0 [3] (vl (si σ a0 0 0) (fun σ_1 => bp (f_X3_in σ_1 (Int32.toInt64 x1) 0 2) (fun r => if ¬ r = 0 then (cko σ_1 a0 [3] (dr (gr σ_1 a0 50) (fun b => cka σ_1 b 101 x1 (vl (si σ_1 b (Int32.toNatClampNeg x1) (vp_nar .boolean 1)) (fun σ_2 => cko σ_2 a0 [3] (dr (gr σ_2 a0 51) (fun b_1 => cko σ_2 a0 [3] (cka σ_2 b_1 105 x1 (vl (si σ_2 b_1 (Int32.toNatClampNeg x1) (gi σ_2 a0 8)) (fun σ_3 => f_X3_keep_38 a0 x1 FU σ_3 0)))))))))) else some (0, σ_1))))
abbrev P_X3_keep (l : Launch) (d n0 s0 : Nat) : vX → Prop := vMP l yX3_keep cX3_keep 3 (some .boolean) d n0 s0
theorem w_X3_keep_38 {l : Launch} {d n0 s0 : Nat} (hd : 1 ≤ d) (a0 : Nat) (x1 : Int32)  : ∀ (n : Nat) (σ_4 : vMem) (v2 : Int32), V (P_X3_keep l d n0 s0) (vEmb eI) σ_4 38 [some (.ref a0), some (.int x1), some (.int v2)] [] (f_X3_keep_38 a0 x1 n σ_4 v2) := by
  have hC : vPx (P_X3_keep l d n0 s0) cX3_keep 3 "NobodyBeenAftModel" (some .boolean) d := vMP_cx
  intro n
  induction n with
  | zero =>
    intro σ_4 v2
    exact V_none
  | succ n ih =>
    intro σ_4 v2
    refine V_eq (f_X3_keep_38.eq_2 ..) ?_
    refine V_iload_n hC dX3_keep_38 rfl ?_
    refine V_bipush (v := 57) hC dX3_keep_39 rfl ?_
    refine V_icmp_ge (tgt := 67) hC dX3_keep_41 (by decide) ?_ ?_
    · refine V_iconst (v := 1) hC dX3_keep_67 rfl ?_
      exact V_zreturn rfl dX3_keep_68 rfl rfl
    · refine V_aload_n hC dX3_keep_44 rfl ?_
      refine g_X3_100 hC dX3_keep_45 (fun b_2 => ?_)
      refine V_bipush (v := 57) hC dX3_keep_48 rfl ?_
      refine V_iload_n hC dX3_keep_50 rfl ?_
      refine V_imul hC dX3_keep_51 ?_
      refine V_iload_n hC dX3_keep_52 rfl ?_
      refine V_iadd hC dX3_keep_53 ?_
      refine V_aload_n hC dX3_keep_54 rfl ?_
      refine g_X3_34 hC dX3_keep_55 (fun b_3 => ?_)
      refine V_iload_n hC dX3_keep_58 rfl ?_
      refine V_iald hC dX3_keep_59 ?_
      refine V_iast hC dX3_keep_60 (fun σ_5 => ?_)
      refine V_iincL (v := v2 + 1) (ls' := fun v2_1 => [some (.ref a0), some (.int x1), some (.int v2_1)]) hC dX3_keep_61 rfl (by decide) rfl rfl (fun _ => rfl) (fun v2_1 => ?_)
      refine V_goto (tgt := 38) hC dX3_keep_64 (by decide) ?_
      exact ih σ_5 v2_1
theorem w_X3_keep {l : Launch} {d n0 s0 : Nat} (hd : 1 ≤ d) (σ : vMem) (a0 : Nat) (x1 : Int32) : V (P_X3_keep l d n0 s0) (vEmb eI) σ 0 [some (.ref a0), some (.int x1), none] [] (f_X3_keep σ a0 x1) := by
  have hC : vPx (P_X3_keep l d n0 s0) cX3_keep 3 "NobodyBeenAftModel" (some .boolean) d := vMP_cx
  refine V_eq (f_X3_keep.eq_1 ..) ?_
  refine V_aload_n hC dX3_keep_0 rfl ?_
  refine V_iconst (v := 0) hC dX3_keep_1 rfl ?_
  refine p_X3_103 hC dX3_keep_2 (fun σ_1 => ?_)
  refine V_iload_n hC dX3_keep_5 rfl ?_
  refine V_i2l hC dX3_keep_6 ?_
  refine V_lconst (v := 0) hC dX3_keep_7 rfl ?_
  refine V_ldc2 hC dX3_keep_8 q1598 ?_
  refine V_callS_PI (As := [.long (Int32.toInt64 x1), .long 0, .long 2]) (rest := []) (d' := 0) hC dX3_keep_11 3 (lw_S q1448 q1449 q87 q1450) (by decide +kernel) rfl rfl (Nat.le_of_ble_eq_true rfl) (Nat.le_trans (by decide) hd) (by decide) vMP_l (fun _ h => c_X3_in (Nat.le_refl _) h) (fun r => ?_)
  refine V_if_ne (tgt := 19) hC dX3_keep_14 (by decide) ?_ ?_
  · refine V_aload_n hC dX3_keep_19 rfl ?_
    refine g_X3_94 hC dX3_keep_20 (fun b => ?_)
    refine V_iload_n hC dX3_keep_23 rfl ?_
    refine V_iconst (v := 1) hC dX3_keep_24 rfl ?_
    refine V_zast hC dX3_keep_25 (fun σ_2 => ?_)
    refine V_aload_n hC dX3_keep_26 rfl ?_
    refine g_X3_97 hC dX3_keep_27 (fun b_1 => ?_)
    refine V_iload_n hC dX3_keep_30 rfl ?_
    refine V_aload_n hC dX3_keep_31 rfl ?_
    refine g_X3_213 hC dX3_keep_32 ?_
    refine V_iast hC dX3_keep_35 (fun σ_3 => ?_)
    refine V_iconst (v := 0) hC dX3_keep_36 rfl ?_
    refine V_istore_n (ls' := [some (.ref a0), some (.int x1), some (.int 0)]) hC dX3_keep_37 (by decide) rfl rfl ?_
    exact (w_X3_keep_38 hd a0 x1) FU σ_3 0
  · refine V_iconst (v := 0) hC dX3_keep_17 rfl ?_
    exact V_zreturn rfl dX3_keep_18 rfl rfl
theorem c_X3_keep {l : Launch} {d : Nat} (hd : 1 ≤ d) {σ : vMem} {a0 : Nat} {x1 : Int32} {r : Int32 × vMem} (h : f_X3_keep σ a0 x1 = some r) : vOk l yX3_keep cX3_keep 3 (some .boolean) d [.ref a0, .int x1] σ (.inl ((eI).1 r, (eI).2 r)) := V_method (em := eI) [some (.ref a0), some (.int x1), none] (by decide +kernel) rfl (Nat.le_of_ble_eq_true rfl) (w_X3_keep hd σ a0 x1) h
/-! NobodyBeenAftModel.again(I)Z -/
def f_X3_again_43 (a0 : Nat) (x1 : Int32) (k : vMem → Option (Int32 × vMem)) : Nat → vMem → Int32 → Option (Int32 × vMem)
  | 0, _, _ => none
  | n + 1, σ_4, v2 => if 57 ≤ v2 then (k σ_4) else cko σ_4 a0 [3] (dr (gr σ_4 a0 14) (fun b_2 => cko σ_4 a0 [3] (dr (gr σ_4 a0 52) (fun b_3 => cka σ_4 b_3 105 ((57 * x1) + v2) (cka σ_4 b_2 105 v2 (vl (si σ_4 b_2 (Int32.toNatClampNeg v2) (gi σ_4 b_3 (Int32.toNatClampNeg ((57 * x1) + v2)))) (fun σ_5 => vl (v2 + 1) (fun v2_1 => f_X3_again_43 a0 x1 k n σ_5 v2_1))))))))
def f_X3_again (σ : vMem) (a0 : Nat) (x1 : Int32) : Option (Int32 × vMem) := cko σ a0 [3] (vl (si σ a0 0 0) (fun σ_1 => bp (f_X3_in σ_1 (Int32.toInt64 x1) 0 2) (fun r => if r = 0 then (some (0, σ_1)) else cko σ_1 a0 [3] (dr (gr σ_1 a0 50) (fun b => cka σ_1 b 101 x1 (if (gi σ_1 b (Int32.toNatClampNeg x1)) = 0 then (some (0, σ_1)) else cko σ_1 a0 [3] (dr (gr σ_1 a0 51) (fun b_1 => cka σ_1 b_1 105 x1 (cko σ_1 a0 [3] (if (gi σ_1 b_1 (Int32.toNatClampNeg x1)) = (gi σ_1 a0 8) then (vl (fun (σ_2 : vMem) => cko σ_2 a0 [3] (vl (si σ_2 a0 29 0) (fun σ_3 => some (1, σ_3)))) (fun k => f_X3_again_43 a0 x1 k FU σ_1 0)) else some (0, σ_1)))))))))))
abbrev P_X3_again (l : Launch) (d n0 s0 : Nat) : vX → Prop := vMP l yX3_again cX3_again 3 (some .boolean) d n0 s0
theorem w_X3_again_43 {l : Launch} {d n0 s0 : Nat} (hd : 1 ≤ d) (a0 : Nat) (x1 : Int32) (k : vMem → Option (Int32 × vMem)) (hk : ∀ (σ_2 : vMem), V (P_X3_again l d n0 s0) (vEmb eI) σ_2 72 [some (.ref a0), none, none] [] (k σ_2)) : ∀ (n : Nat) (σ_4 : vMem) (v2 : Int32), V (P_X3_again l d n0 s0) (vEmb eI) σ_4 43 [some (.ref a0), some (.int x1), some (.int v2)] [] (f_X3_again_43 a0 x1 k n σ_4 v2) := by
  have hC : vPx (P_X3_again l d n0 s0) cX3_again 3 "NobodyBeenAftModel" (some .boolean) d := vMP_cx
  intro n
  induction n with
  | zero =>
    intro σ_4 v2
    exact V_none
  | succ n ih =>
    intro σ_4 v2
    refine V_eq (f_X3_again_43.eq_2 ..) ?_
    refine V_iload_n hC dX3_again_43 rfl ?_
    refine V_bipush (v := 57) hC dX3_again_44 rfl ?_
    refine V_icmp_ge (tgt := 72) hC dX3_again_46 (by decide) ?_ ?_
    · refine V_clr [1, 2] (ls' := [some (.ref a0), none, none]) rfl ?_
      exact hk σ_4
    · refine V_aload_n hC dX3_again_49 rfl ?_
      refine g_X3_34 hC dX3_again_50 (fun b_2 => ?_)
      refine V_iload_n hC dX3_again_53 rfl ?_
      refine V_aload_n hC dX3_again_54 rfl ?_
      refine g_X3_100 hC dX3_again_55 (fun b_3 => ?_)
      refine V_bipush (v := 57) hC dX3_again_58 rfl ?_
      refine V_iload_n hC dX3_again_60 rfl ?_
      refine V_imul hC dX3_again_61 ?_
      refine V_iload_n hC dX3_again_62 rfl ?_
      refine V_iadd hC dX3_again_63 ?_
      refine V_iald hC dX3_again_64 ?_
      refine V_iast hC dX3_again_65 (fun σ_5 => ?_)
      refine V_iincL (v := v2 + 1) (ls' := fun v2_1 => [some (.ref a0), some (.int x1), some (.int v2_1)]) hC dX3_again_66 rfl (by decide) rfl rfl (fun _ => rfl) (fun v2_1 => ?_)
      refine V_goto (tgt := 43) hC dX3_again_69 (by decide) ?_
      exact ih σ_5 v2_1
theorem w_X3_again {l : Launch} {d n0 s0 : Nat} (hd : 1 ≤ d) (σ : vMem) (a0 : Nat) (x1 : Int32) : V (P_X3_again l d n0 s0) (vEmb eI) σ 0 [some (.ref a0), some (.int x1), none] [] (f_X3_again σ a0 x1) := by
  have hC : vPx (P_X3_again l d n0 s0) cX3_again 3 "NobodyBeenAftModel" (some .boolean) d := vMP_cx
  refine V_eq (f_X3_again.eq_1 ..) ?_
  refine V_aload_n hC dX3_again_0 rfl ?_
  refine V_iconst (v := 0) hC dX3_again_1 rfl ?_
  refine p_X3_103 hC dX3_again_2 (fun σ_1 => ?_)
  refine V_iload_n hC dX3_again_5 rfl ?_
  refine V_i2l hC dX3_again_6 ?_
  refine V_lconst (v := 0) hC dX3_again_7 rfl ?_
  refine V_ldc2 hC dX3_again_8 q1598 ?_
  refine V_callS_PI (As := [.long (Int32.toInt64 x1), .long 0, .long 2]) (rest := []) (d' := 0) hC dX3_again_11 3 (lw_S q1448 q1449 q87 q1450) (by decide +kernel) rfl rfl (Nat.le_of_ble_eq_true rfl) (Nat.le_trans (by decide) hd) (by decide) vMP_l (fun _ h => c_X3_in (Nat.le_refl _) h) (fun r => ?_)
  refine V_if_eq (tgt := 39) hC dX3_again_14 (by decide) ?_ ?_
  · refine V_iconst (v := 0) hC dX3_again_39 rfl ?_
    exact V_zreturn rfl dX3_again_40 rfl rfl
  · refine V_aload_n hC dX3_again_17 rfl ?_
    refine g_X3_94 hC dX3_again_18 (fun b => ?_)
    refine V_iload_n hC dX3_again_21 rfl ?_
    refine V_zald hC dX3_again_22 ?_
    refine V_if_eq (tgt := 39) hC dX3_again_23 (by decide) ?_ ?_
    · refine V_iconst (v := 0) hC dX3_again_39 rfl ?_
      exact V_zreturn rfl dX3_again_40 rfl rfl
    · refine V_aload_n hC dX3_again_26 rfl ?_
      refine g_X3_97 hC dX3_again_27 (fun b_1 => ?_)
      refine V_iload_n hC dX3_again_30 rfl ?_
      refine V_iald hC dX3_again_31 ?_
      refine V_aload_n hC dX3_again_32 rfl ?_
      refine g_X3_213 hC dX3_again_33 ?_
      refine V_icmp_eq (tgt := 41) hC dX3_again_36 (by decide) ?_ ?_
      · refine V_iconst (v := 0) hC dX3_again_41 rfl ?_
        refine V_istore_n (ls' := [some (.ref a0), some (.int x1), some (.int 0)]) hC dX3_again_42 (by decide) rfl rfl ?_
        refine V_let (B := fun k => ∀ (σ_2 : vMem), V (P_X3_again l d n0 s0) (vEmb eI) σ_2 72 [some (.ref a0), none, none] [] (k σ_2)) ?_ ?_
        · intro σ_2
          refine V_aload_n hC dX3_again_72 rfl ?_
          refine V_iconst (v := 0) hC dX3_again_73 rfl ?_
          refine p_X3_210 hC dX3_again_74 (fun σ_3 => ?_)
          refine V_iconst (v := 1) hC dX3_again_77 rfl ?_
          exact V_zreturn rfl dX3_again_78 rfl rfl
        · intro k hk
          exact (w_X3_again_43 hd a0 x1 k hk) FU σ_1 0
      · refine V_iconst (v := 0) hC dX3_again_39 rfl ?_
        exact V_zreturn rfl dX3_again_40 rfl rfl
theorem c_X3_again {l : Launch} {d : Nat} (hd : 1 ≤ d) {σ : vMem} {a0 : Nat} {x1 : Int32} {r : Int32 × vMem} (h : f_X3_again σ a0 x1 = some r) : vOk l yX3_again cX3_again 3 (some .boolean) d [.ref a0, .int x1] σ (.inl ((eI).1 r, (eI).2 r)) := V_method (em := eI) [some (.ref a0), some (.int x1), none] (by decide +kernel) rfl (Nat.le_of_ble_eq_true rfl) (w_X3_again hd σ a0 x1) h
/-! NobodyBeenAftModel.count(I)I -/
def f_X3_count (σ : vMem) (a0 : Nat) (x1 : Int32) : Option (Int32 × vMem) := cko σ a0 [3] (vl (si σ a0 0 0) (fun σ_1 => if x1 = 0 then (cko σ_1 a0 [3] (some ((gi σ_1 a0 3), σ_1))) else if x1 = 1 then (cko σ_1 a0 [3] (some ((gi σ_1 a0 4), σ_1))) else if x1 = 2 then (cko σ_1 a0 [3] (some ((gi σ_1 a0 5), σ_1))) else if x1 = 3 then (cko σ_1 a0 [3] (some ((gi σ_1 a0 6), σ_1))) else if x1 = 4 then (cko σ_1 a0 [3] (some ((gi σ_1 a0 7), σ_1))) else if x1 = 5 then (cko σ_1 a0 [3] (dr (gr σ_1 a0 14) (fun b => cka σ_1 b 105 0 (some ((gi σ_1 b (Int32.toNatClampNeg 0)), σ_1))))) else if x1 = 6 then (cko σ_1 a0 [3] (dr (gr σ_1 a0 14) (fun b_1 => cka σ_1 b_1 105 1 (some ((gi σ_1 b_1 (Int32.toNatClampNeg 1)), σ_1))))) else if x1 = 7 then (cko σ_1 a0 [3] (dr (gr σ_1 a0 14) (fun b_2 => cka σ_1 b_2 105 2 (some ((gi σ_1 b_2 (Int32.toNatClampNeg 2)), σ_1))))) else if x1 = 8 then (cko σ_1 a0 [3] (dr (gr σ_1 a0 14) (fun b_3 => cka σ_1 b_3 105 3 (some ((gi σ_1 b_3 (Int32.toNatClampNeg 3)), σ_1))))) else if x1 = 9 then (cko σ_1 a0 [3] (some ((gi σ_1 a0 42), σ_1))) else if x1 = 10 then (cko σ_1 a0 [3] (some ((gi σ_1 a0 29), σ_1))) else if x1 = 11 then (cko σ_1 a0 [3] (some ((gi σ_1 a0 1), σ_1))) else if x1 = 12 then (cko σ_1 a0 [3] (some ((gi σ_1 a0 17), σ_1))) else some ((-100), σ_1)))
abbrev P_X3_count (l : Launch) (d n0 s0 : Nat) : vX → Prop := vMP l yX3_count cX3_count 2 (some .int) d n0 s0
theorem w_X3_count {l : Launch} {d n0 s0 : Nat} (hd : 0 ≤ d) (σ : vMem) (a0 : Nat) (x1 : Int32) : V (P_X3_count l d n0 s0) (vEmb eI) σ 0 [some (.ref a0), some (.int x1)] [] (f_X3_count σ a0 x1) := by
  have hC : vPx (P_X3_count l d n0 s0) cX3_count 2 "NobodyBeenAftModel" (some .int) d := vMP_cx
  refine V_eq (f_X3_count.eq_1 ..) ?_
  refine V_aload_n hC dX3_count_0 rfl ?_
  refine V_iconst (v := 0) hC dX3_count_1 rfl ?_
  refine p_X3_103 hC dX3_count_2 (fun σ_1 => ?_)
  refine V_iload_n hC dX3_count_5 rfl ?_
  refine V_if (fun hx => ?_) (fun h_0 => ?_)
  · refine V_tin 0 (off := 66) (tgt := 72) hC dX3_count_6 hx (by decide) (by decide) (by decide) (by decide) ?_
    refine V_aload_n hC dX3_count_72 rfl ?_
    refine g_X3_13 hC dX3_count_73 ?_
    exact V_ireturn dX3_count_76 rfl rfl
  · skip
    refine V_if (fun hx => ?_) (fun h_1 => ?_)
    · refine V_tin 1 (off := 71) (tgt := 77) hC dX3_count_6 hx (by decide) (by decide) (by decide) (by decide) ?_
      refine V_aload_n hC dX3_count_77 rfl ?_
      refine g_X3_190 hC dX3_count_78 ?_
      exact V_ireturn dX3_count_81 rfl rfl
    · skip
      refine V_if (fun hx => ?_) (fun h_2 => ?_)
      · refine V_tin 2 (off := 76) (tgt := 82) hC dX3_count_6 hx (by decide) (by decide) (by decide) (by decide) ?_
        refine V_aload_n hC dX3_count_82 rfl ?_
        refine g_X3_193 hC dX3_count_83 ?_
        exact V_ireturn dX3_count_86 rfl rfl
      · skip
        refine V_if (fun hx => ?_) (fun h_3 => ?_)
        · refine V_tin 3 (off := 81) (tgt := 87) hC dX3_count_6 hx (by decide) (by decide) (by decide) (by decide) ?_
          refine V_aload_n hC dX3_count_87 rfl ?_
          refine g_X3_196 hC dX3_count_88 ?_
          exact V_ireturn dX3_count_91 rfl rfl
        · skip
          refine V_if (fun hx => ?_) (fun h_4 => ?_)
          · refine V_tin 4 (off := 86) (tgt := 92) hC dX3_count_6 hx (by decide) (by decide) (by decide) (by decide) ?_
            refine V_aload_n hC dX3_count_92 rfl ?_
            refine g_X3_117 hC dX3_count_93 ?_
            exact V_ireturn dX3_count_96 rfl rfl
          · skip
            refine V_if (fun hx => ?_) (fun h_5 => ?_)
            · refine V_tin 5 (off := 91) (tgt := 97) hC dX3_count_6 hx (by decide) (by decide) (by decide) (by decide) ?_
              refine V_aload_n hC dX3_count_97 rfl ?_
              refine g_X3_34 hC dX3_count_98 (fun b => ?_)
              refine V_iconst (v := 0) hC dX3_count_101 rfl ?_
              refine V_iald hC dX3_count_102 ?_
              exact V_ireturn dX3_count_103 rfl rfl
            · skip
              refine V_if (fun hx => ?_) (fun h_6 => ?_)
              · refine V_tin 6 (off := 98) (tgt := 104) hC dX3_count_6 hx (by decide) (by decide) (by decide) (by decide) ?_
                refine V_aload_n hC dX3_count_104 rfl ?_
                refine g_X3_34 hC dX3_count_105 (fun b_1 => ?_)
                refine V_iconst (v := 1) hC dX3_count_108 rfl ?_
                refine V_iald hC dX3_count_109 ?_
                exact V_ireturn dX3_count_110 rfl rfl
              · skip
                refine V_if (fun hx => ?_) (fun h_7 => ?_)
                · refine V_tin 7 (off := 105) (tgt := 111) hC dX3_count_6 hx (by decide) (by decide) (by decide) (by decide) ?_
                  refine V_aload_n hC dX3_count_111 rfl ?_
                  refine g_X3_34 hC dX3_count_112 (fun b_2 => ?_)
                  refine V_iconst (v := 2) hC dX3_count_115 rfl ?_
                  refine V_iald hC dX3_count_116 ?_
                  exact V_ireturn dX3_count_117 rfl rfl
                · skip
                  refine V_if (fun hx => ?_) (fun h_8 => ?_)
                  · refine V_tin 8 (off := 112) (tgt := 118) hC dX3_count_6 hx (by decide) (by decide) (by decide) (by decide) ?_
                    refine V_aload_n hC dX3_count_118 rfl ?_
                    refine g_X3_34 hC dX3_count_119 (fun b_3 => ?_)
                    refine V_iconst (v := 3) hC dX3_count_122 rfl ?_
                    refine V_iald hC dX3_count_123 ?_
                    exact V_ireturn dX3_count_124 rfl rfl
                  · skip
                    refine V_if (fun hx => ?_) (fun h_9 => ?_)
                    · refine V_tin 9 (off := 119) (tgt := 125) hC dX3_count_6 hx (by decide) (by decide) (by decide) (by decide) ?_
                      refine V_aload_n hC dX3_count_125 rfl ?_
                      refine g_X3_415 hC dX3_count_126 ?_
                      exact V_ireturn dX3_count_129 rfl rfl
                    · skip
                      refine V_if (fun hx => ?_) (fun h_10 => ?_)
                      · refine V_tin 10 (off := 124) (tgt := 130) hC dX3_count_6 hx (by decide) (by decide) (by decide) (by decide) ?_
                        refine V_aload_n hC dX3_count_130 rfl ?_
                        refine g_X3_210 hC dX3_count_131 ?_
                        exact V_ireturn dX3_count_134 rfl rfl
                      · skip
                        refine V_if (fun hx => ?_) (fun h_11 => ?_)
                        · refine V_tin 11 (off := 129) (tgt := 135) hC dX3_count_6 hx (by decide) (by decide) (by decide) (by decide) ?_
                          refine V_aload_n hC dX3_count_135 rfl ?_
                          refine g_X3_110 hC dX3_count_136 ?_
                          exact V_ireturn dX3_count_139 rfl rfl
                        · skip
                          refine V_if (fun hx => ?_) (fun h_12 => ?_)
                          · refine V_tin 12 (off := 134) (tgt := 140) hC dX3_count_6 hx (by decide) (by decide) (by decide) (by decide) ?_
                            refine V_aload_n hC dX3_count_140 rfl ?_
                            refine g_X3_124 hC dX3_count_141 ?_
                            exact V_ireturn dX3_count_144 rfl rfl
                          · skip
                            refine V_tout (tgt := 145) hC dX3_count_6 (by have q0 := sw_ne (n := 0) h_0 (by decide); have q1 := sw_ne (n := 1) h_1 (by decide); have q2 := sw_ne (n := 2) h_2 (by decide); have q3 := sw_ne (n := 3) h_3 (by decide); have q4 := sw_ne (n := 4) h_4 (by decide); have q5 := sw_ne (n := 5) h_5 (by decide); have q6 := sw_ne (n := 6) h_6 (by decide); have q7 := sw_ne (n := 7) h_7 (by decide); have q8 := sw_ne (n := 8) h_8 (by decide); have q9 := sw_ne (n := 9) h_9 (by decide); have q10 := sw_ne (n := 10) h_10 (by decide); have q11 := sw_ne (n := 11) h_11 (by decide); have q12 := sw_ne (n := 12) h_12 (by decide); omega) (by decide) ?_
                            refine V_bipush (v := (-100)) hC dX3_count_145 rfl ?_
                            exact V_ireturn dX3_count_147 rfl rfl
theorem c_X3_count {l : Launch} {d : Nat} (hd : 0 ≤ d) {σ : vMem} {a0 : Nat} {x1 : Int32} {r : Int32 × vMem} (h : f_X3_count σ a0 x1 = some r) : vOk l yX3_count cX3_count 2 (some .int) d [.ref a0, .int x1] σ (.inl ((eI).1 r, (eI).2 r)) := V_method (em := eI) [some (.ref a0), some (.int x1)] (by decide +kernel) rfl (Nat.le_of_ble_eq_true rfl) (w_X3_count hd σ a0 x1) h
/-! NobodyBeenAftModel.row(I)J -/
def f_X3_row (σ : vMem) (a0 : Nat) (x1 : Int32) : Option (Int64 × vMem) := cko σ a0 [3] (vl (si σ a0 0 0) (fun σ_1 => cko σ_1 a0 [3] (bp (f_X3_in σ_1 (Int32.toInt64 x1) 0 (Int32.toInt64 ((gi σ_1 a0 1) - 1))) (fun r => if ¬ r = 0 then (cko σ_1 a0 [3] (dr (gr σ_1 a0 2) (fun b => cka σ_1 b 106 x1 (some ((gl σ_1 b (Int32.toNatClampNeg x1)), σ_1))))) else cko σ_1 a0 [3] (vl (si σ_1 a0 0 1) (fun σ_2 => some (0, σ_2)))))))
abbrev P_X3_row (l : Launch) (d n0 s0 : Nat) : vX → Prop := vMP l yX3_row cX3_row 2 (some .long) d n0 s0
theorem w_X3_row {l : Launch} {d n0 s0 : Nat} (hd : 1 ≤ d) (σ : vMem) (a0 : Nat) (x1 : Int32) : V (P_X3_row l d n0 s0) (vEmb eL) σ 0 [some (.ref a0), some (.int x1)] [] (f_X3_row σ a0 x1) := by
  have hC : vPx (P_X3_row l d n0 s0) cX3_row 2 "NobodyBeenAftModel" (some .long) d := vMP_cx
  refine V_eq (f_X3_row.eq_1 ..) ?_
  refine V_aload_n hC dX3_row_0 rfl ?_
  refine V_iconst (v := 0) hC dX3_row_1 rfl ?_
  refine p_X3_103 hC dX3_row_2 (fun σ_1 => ?_)
  refine V_iload_n hC dX3_row_5 rfl ?_
  refine V_i2l hC dX3_row_6 ?_
  refine V_lconst (v := 0) hC dX3_row_7 rfl ?_
  refine V_aload_n hC dX3_row_8 rfl ?_
  refine g_X3_110 hC dX3_row_9 ?_
  refine V_iconst (v := 1) hC dX3_row_12 rfl ?_
  refine V_isub hC dX3_row_13 ?_
  refine V_i2l hC dX3_row_14 ?_
  refine V_callS_PI (As := [.long (Int32.toInt64 x1), .long 0, .long (Int32.toInt64 ((gi σ_1 a0 1) - 1))]) (rest := []) (d' := 0) hC dX3_row_15 3 (lw_S q1448 q1449 q87 q1450) (by decide +kernel) rfl rfl (Nat.le_of_ble_eq_true rfl) (Nat.le_trans (by decide) hd) (by decide) vMP_l (fun _ h => c_X3_in (Nat.le_refl _) h) (fun r => ?_)
  refine V_if_ne (tgt := 28) hC dX3_row_18 (by decide) ?_ ?_
  · refine V_aload_n hC dX3_row_28 rfl ?_
    refine g_X3_9 hC dX3_row_29 (fun b => ?_)
    refine V_iload_n hC dX3_row_32 rfl ?_
    refine V_lald hC dX3_row_33 ?_
    exact V_lreturn dX3_row_34 rfl rfl
  · refine V_aload_n hC dX3_row_21 rfl ?_
    refine V_iconst (v := 1) hC dX3_row_22 rfl ?_
    refine p_X3_103 hC dX3_row_23 (fun σ_2 => ?_)
    refine V_lconst (v := 0) hC dX3_row_26 rfl ?_
    exact V_lreturn dX3_row_27 rfl rfl
theorem c_X3_row {l : Launch} {d : Nat} (hd : 1 ≤ d) {σ : vMem} {a0 : Nat} {x1 : Int32} {r : Int64 × vMem} (h : f_X3_row σ a0 x1 = some r) : vOk l yX3_row cX3_row 2 (some .long) d [.ref a0, .int x1] σ (.inl ((eL).1 r, (eL).2 r)) := V_method (em := eL) [some (.ref a0), some (.int x1)] (by decide +kernel) rfl (Nat.le_of_ble_eq_true rfl) (w_X3_row hd σ a0 x1) h
