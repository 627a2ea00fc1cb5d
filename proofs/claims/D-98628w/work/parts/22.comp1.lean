/-! MACHINE HALF, printed by gen/build.py: terms (f_), walks (w_), contracts (c_) -/
set_option maxRecDepth 100000
/-! NobodyBeenAft$Pots.<init>()V -/
def f_X9_init (σ : vMem) (a0 : Nat) : Option (vMem) := bv (f_X7_init σ a0) (fun σ_1 => some σ_1)
abbrev P_X9_init (l : Launch) (d n0 s0 : Nat) : vX → Prop := vMP l yX9_init cX9_init 1 none d n0 s0
theorem w_X9_init {l : Launch} {d n0 s0 : Nat} (hd : 1 ≤ d) (σ : vMem) (a0 : Nat) : V (P_X9_init l d n0 s0) (vEmb eV) σ 0 [some (.ref a0)] [] (f_X9_init σ a0) := by
  have hC : vPx (P_X9_init l d n0 s0) cX9_init 1 "NobodyBeenAft$Pots" none d := vMP_cx
  refine V_eq (f_X9_init.eq_1 ..) ?_
  refine V_aload_n hC dX9_init_0 rfl ?_
  refine V_callIN_V (As := []) (rest := []) (d' := 0) hC dX9_init_1 0 q482 q95 q544 q481 rfl rfl (by decide +kernel) rfl rfl (Nat.le_of_ble_eq_true rfl) (Nat.le_trans (by decide) hd) (by decide) vMP_l (fun _ h => c_X7_init (Nat.le_refl _) h) (fun σ_1 => ?_)
  exact V_return dX9_init_4 rfl rfl
theorem c_X9_init {l : Launch} {d : Nat} (hd : 1 ≤ d) {σ : vMem} {a0 : Nat} {r : vMem} (h : f_X9_init σ a0 = some r) : vOk l yX9_init cX9_init 1 none d [.ref a0] σ (.inl ((eV).1 r, (eV).2 r)) := V_method (em := eV) [some (.ref a0)] (by decide +kernel) rfl (Nat.le_of_ble_eq_true rfl) (w_X9_init hd σ a0) h
/-! NobodyBeenAft.messes()I -/
def f_X1_messes_43 (a0 : Nat) (b : Nat) (k : vMem → Option (Int32 × vMem)) : Nat → vMem → Int32 → Option (Int32 × vMem)
  | 0, _, _ => none
  | n + 1, σ_9, v2 => cko σ_9 b [8, 9] (if (gi σ_9 b 2) ≤ v2 then (k σ_9) else cko σ_9 a0 [1] (dr (gr σ_9 a0 0) (fun b_3 => cko σ_9 b_3 [2] (dr (gr σ_9 b_3 0) (fun b_4 => cko σ_9 a0 [1] (cko σ_9 b [8, 9] (dr (gr σ_9 b 0) (fun b_5 => cka σ_9 b_5 105 v2 (cka σ_9 b_4 105 (gi σ_9 a0 12) (vl (si σ_9 b_4 (Int32.toNatClampNeg (gi σ_9 a0 12)) (gi σ_9 b_5 (Int32.toNatClampNeg v2))) (fun σ_10 => cko σ_10 a0 [1] (dr (gr σ_10 a0 0) (fun b_6 => cko σ_10 b_6 [2] (dr (gr σ_10 b_6 1) (fun b_7 => cko σ_10 a0 [1] (cka σ_10 b_7 105 (gi σ_10 a0 12) (vl (si σ_10 b_7 (Int32.toNatClampNeg (gi σ_10 a0 12)) 0) (fun σ_11 => cko σ_11 a0 [1] (dr (gr σ_11 a0 7) (fun b_8 => cko σ_11 a0 [1] (cko σ_11 b [8, 9] (dr (gr σ_11 b 1) (fun b_9 => cka σ_11 b_9 105 v2 (cka σ_11 b_8 105 (gi σ_11 a0 12) (vl (si σ_11 b_8 (Int32.toNatClampNeg (gi σ_11 a0 12)) (gi σ_11 b_9 (Int32.toNatClampNeg v2))) (fun σ_12 => vl (v2 + 1) (fun v2_1 => cko σ_12 a0 [1] (cko σ_12 a0 [1] (vl (si σ_12 a0 12 ((gi σ_12 a0 12) + 1)) (fun σ_13 => f_X1_messes_43 a0 b k n σ_13 v2_1))))))))))))))))))))))))))))))
def f_X1_messes (σ : vMem) (a0 : Nat) : Option (Int32 × vMem) := nw σ 9 3 (fun b σ_1 => bv (f_X9_init σ_1 b) (fun σ_2 => cko σ_2 a0 [1] (bd (f_X1_words σ_2 a0 39) (fun b_1 σ_3 => cko σ_3 a0 [1] (cko σ_3 b [9] (bx (f_X7_readAll σ_3 b b_1 (8 - (gi σ_3 a0 12))) (fun r σ_4 => if ¬ r = 0 then (vl (fun (σ_6 : vMem) => cko σ_6 a0 [1] (vl (si σ_6 a0 14 0) (fun σ_7 => cko σ_7 a0 [1] (cko σ_7 a0 [1] (vl (si σ_7 a0 13 ((gi σ_7 a0 13) + 1)) (fun σ_8 => cko σ_8 b [8, 9] (some ((gi σ_8 b 2), σ_8)))))))) (fun k => f_X1_messes_43 a0 b k FU σ_4 0)) else some (0, σ_4)) (fun b_2 σ_5 => cko σ_5 b_2 [6] (cko σ_5 b_2 [6] (some (((-1) - (gi σ_5 b_2 0)), σ_5))))))))))
abbrev P_X1_messes (l : Launch) (d n0 s0 : Nat) : vX → Prop := vMX l yX1_messes cX1_messes 3 (some .int) [(8, 29, 33, 113)] d n0 s0
theorem w_X1_messes_43 {l : Launch} {d n0 s0 : Nat} (hd : 10 ≤ d) (h0 : l.stackTraces = false) (a0 : Nat) (b : Nat) (k : vMem → Option (Int32 × vMem)) (hk : ∀ (σ_6 : vMem), V (P_X1_messes l d n0 s0) nxI σ_6 113 [some (.ref a0), some (.ref b), none] [] (k σ_6)) : ∀ (n : Nat) (σ_9 : vMem) (v2 : Int32), V (P_X1_messes l d n0 s0) nxI σ_9 43 [some (.ref a0), some (.ref b), some (.int v2)] [] (f_X1_messes_43 a0 b k n σ_9 v2) := by
  have hC : vPx (P_X1_messes l d n0 s0) cX1_messes 3 "NobodyBeenAft" (some .int) d := vMX_cx
  intro n
  induction n with
  | zero =>
    intro σ_9 v2
    exact V_none
  | succ n ih =>
    intro σ_9 v2
    refine V_eq (f_X1_messes_43.eq_2 ..) ?_
    refine V_iload_n hC dX1_messes_43 rfl ?_
    refine V_aload_n hC dX1_messes_44 rfl ?_
    refine g_X1_151 hC dX1_messes_45 ?_
    refine V_icmp_ge (tgt := 113) hC dX1_messes_48 (by decide) ?_ ?_
    · refine V_clr [2] (ls' := [some (.ref a0), some (.ref b), none]) rfl ?_
      exact hk σ_9
    · refine V_aload_n hC dX1_messes_51 rfl ?_
      refine g_X1_21 hC dX1_messes_52 (fun b_3 => ?_)
      refine g_X1_158 hC dX1_messes_55 (fun b_4 => ?_)
      refine V_aload_n hC dX1_messes_58 rfl ?_
      refine g_X1_87 hC dX1_messes_59 ?_
      refine V_aload_n hC dX1_messes_62 rfl ?_
      refine g_X1_148 hC dX1_messes_63 (fun b_5 => ?_)
      refine V_iload_n hC dX1_messes_66 rfl ?_
      refine V_iald hC dX1_messes_67 ?_
      refine V_iast hC dX1_messes_68 (fun σ_10 => ?_)
      refine V_aload_n hC dX1_messes_69 rfl ?_
      refine g_X1_21 hC dX1_messes_70 (fun b_6 => ?_)
      refine g_X1_161 hC dX1_messes_73 (fun b_7 => ?_)
      refine V_aload_n hC dX1_messes_76 rfl ?_
      refine g_X1_87 hC dX1_messes_77 ?_
      refine V_iconst (v := 0) hC dX1_messes_80 rfl ?_
      refine V_iast hC dX1_messes_81 (fun σ_11 => ?_)
      refine V_aload_n hC dX1_messes_82 rfl ?_
      refine g_X1_45 hC dX1_messes_83 (fun b_8 => ?_)
      refine V_aload_n hC dX1_messes_86 rfl ?_
      refine g_X1_87 hC dX1_messes_87 ?_
      refine V_aload_n hC dX1_messes_90 rfl ?_
      refine g_X1_152 hC dX1_messes_91 (fun b_9 => ?_)
      refine V_iload_n hC dX1_messes_94 rfl ?_
      refine V_iald hC dX1_messes_95 ?_
      refine V_iast hC dX1_messes_96 (fun σ_12 => ?_)
      refine V_iincL (v := v2 + 1) (ls' := fun v2_1 => [some (.ref a0), some (.ref b), some (.int v2_1)]) hC dX1_messes_97 rfl (by decide) rfl rfl (fun _ => rfl) (fun v2_1 => ?_)
      refine V_aload_n hC dX1_messes_100 rfl ?_
      refine V_dup hC dX1_messes_101 rfl ?_
      refine g_X1_87 hC dX1_messes_102 ?_
      refine V_iconst (v := 1) hC dX1_messes_105 rfl ?_
      refine V_iadd hC dX1_messes_106 ?_
      refine p_X1_87 hC dX1_messes_107 (fun σ_13 => ?_)
      refine V_goto (tgt := 43) hC dX1_messes_110 (by decide) ?_
      exact ih σ_13 v2_1
theorem w_X1_messes {l : Launch} {d n0 s0 : Nat} (hd : 10 ≤ d) (h0 : l.stackTraces = false) (σ : vMem) (a0 : Nat) : V (P_X1_messes l d n0 s0) nxI σ 0 [some (.ref a0), none, none] [] (f_X1_messes σ a0) := by
  have hC : vPx (P_X1_messes l d n0 s0) cX1_messes 3 "NobodyBeenAft" (some .int) d := vMX_cx
  refine V_eq (f_X1_messes.eq_1 ..) ?_
  refine V_new (c := 9) hC dX1_messes_0 q539 q540 q101 rfl (by decide) in_X9 tyX9 tyX9_ok (by decide +kernel) (fun b σ_1 => ?_)
  refine V_dup hC dX1_messes_3 rfl ?_
  refine V_callIN_V (As := []) (rest := [.ref b]) (d' := 1) hC dX1_messes_4 0 q543 q101 q541 q542 rfl rfl (by decide +kernel) rfl rfl (Nat.le_of_ble_eq_true rfl) (Nat.le_trans (by decide) hd) (by decide) vMX_l (fun _ h => c_X9_init (Nat.le_refl _) h) (fun σ_2 => ?_)
  refine V_astore_n (ls' := [some (.ref a0), some (.ref b), none]) hC dX1_messes_7 (by decide) rfl rfl ?_
  refine V_aload_n hC dX1_messes_8 rfl ?_
  refine V_aload_n hC dX1_messes_9 rfl ?_
  refine V_bipush (v := 39) hC dX1_messes_10 rfl ?_
  refine V_cko (fun hm => V_callV_A (c := 1) (As := [.int 39]) (rest := [.ref b]) (d' := 1) hC dX1_messes_12 1 (lw_V q316 q318 qs0 q85 q319) (by decide +kernel) (List.mem_singleton.mp hm) (by decide) (by decide) rfl rfl rfl (Nat.le_of_ble_eq_true rfl) (Nat.le_trans (by decide) hd) (by decide) vMX_l (fun _ h => c_X1_words (Nat.le_refl _) h) (fun b_1 σ_3 => ?_))
  refine V_bipush (v := 8) hC dX1_messes_15 rfl ?_
  refine V_aload_n hC dX1_messes_17 rfl ?_
  refine g_X1_87 hC dX1_messes_18 ?_
  refine V_isub hC dX1_messes_21 ?_
  refine V_cko (fun hm => V_xcallU_I (C := "NobodyBeenAft$Pots") (owner := "NobodyBeenAft$Lines") (c := 9) (As := [.ref b_1, .int (8 - (gi σ_3 a0 12))]) (rest := []) (d' := 9) hC dX1_messes_22 2 (lw_app (List.forall_mem_cons.mpr ⟨q509, List.forall_mem_cons.mpr ⟨q511, List.forall_mem_cons.mpr ⟨q512, List.forall_mem_cons.mpr ⟨q510, List.forall_mem_cons.mpr ⟨q95, fun _ h => absurd h List.not_mem_nil⟩⟩⟩⟩⟩) (lw_meth q514)) rfl (by decide +kernel) (List.mem_singleton.mp hm) (by decide) (by decide) rfl rfl rfl (Nat.le_of_ble_eq_true rfl) (Nat.le_trans (by decide) hd) (by decide) vMX_l (fun _ h => c_X7_readAll (Nat.le_refl _) h0 h) (fun r σ_4 => ?_) (fun b_2 σ_5 => ?_))
  · refine V_if_ne (tgt := 30) hC dX1_messes_25 (by decide) ?_ ?_
    · refine V_goto (tgt := 41) hC dX1_messes_30 (by decide) ?_
      refine V_iconst (v := 0) hC dX1_messes_41 rfl ?_
      refine V_istore_n (ls' := [some (.ref a0), some (.ref b), some (.int 0)]) hC dX1_messes_42 (by decide) rfl rfl ?_
      refine V_let (B := fun k => ∀ (σ_6 : vMem), V (P_X1_messes l d n0 s0) nxI σ_6 113 [some (.ref a0), some (.ref b), none] [] (k σ_6)) ?_ ?_
      · intro σ_6
        refine V_aload_n hC dX1_messes_113 rfl ?_
        refine V_iconst (v := 0) hC dX1_messes_114 rfl ?_
        refine p_X1_164 hC dX1_messes_115 (fun σ_7 => ?_)
        refine V_aload_n hC dX1_messes_118 rfl ?_
        refine V_dup hC dX1_messes_119 rfl ?_
        refine g_X1_167 hC dX1_messes_120 ?_
        refine V_iconst (v := 1) hC dX1_messes_123 rfl ?_
        refine V_iadd hC dX1_messes_124 ?_
        refine p_X1_167 hC dX1_messes_125 (fun σ_8 => ?_)
        refine V_aload_n hC dX1_messes_128 rfl ?_
        refine g_X1_151 hC dX1_messes_129 ?_
        exact V_xireturn dX1_messes_132 rfl
      · intro k hk
        exact (w_X1_messes_43 hd h0 a0 b k hk) FU σ_4 0
    · refine V_iconst (v := 0) hC dX1_messes_28 rfl ?_
      exact V_xireturn dX1_messes_29 rfl
  · refine VT_catch hC (by decide) (by decide) (by decide) (by decide) rfl q292 q391 ?_
    refine V_astore_n (ls' := [some (.ref a0), some (.ref b), some (.ref b_2)]) hC dX1_messes_33 (by decide) rfl rfl ?_
    refine V_iconst (v := (-1)) hC dX1_messes_34 rfl ?_
    refine V_aload_n hC dX1_messes_35 rfl ?_
    refine g_X1_115 hC dX1_messes_36 ?_
    refine V_isub hC dX1_messes_39 ?_
    exact V_xireturn dX1_messes_40 rfl
theorem c_X1_messes {l : Launch} {d : Nat} (hd : 10 ≤ d) (h0 : l.stackTraces = false) {σ : vMem} {a0 : Nat} {r : Int32 × vMem} (h : f_X1_messes σ a0 = some r) : vOx l yX1_messes (wsW_ yX1_messes cX1_messes 3 (some .int) [(8, 29, 33, 113)]) d [.ref a0] σ (nxI r) := V_wmethod (em := nxI) (hh := [(8, 29, 33, 113)]) [some (.ref a0), none, none] (by decide +kernel) rfl (Nat.le_of_ble_eq_true rfl) (w_X1_messes hd h0 σ a0) h
/-! NobodyBeenAft$Rule.<init>(LNobodyBeenAft;[BI)V -/
def f_X10_init (σ : vMem) (a0 : Nat) (a1 : Nat) (a2 : Nat) (x3 : Int32) : Option (vMem) := cko σ a0 [10] (vl (sr σ a0 6 (some a1)) (fun σ_1 => bv (f_X5_init σ_1 a0 a2 x3 40) (fun σ_2 => some σ_2)))
abbrev P_X10_init (l : Launch) (d n0 s0 : Nat) : vX → Prop := vMP l yX10_init cX10_init 4 none d n0 s0
theorem w_X10_init {l : Launch} {d n0 s0 : Nat} (hd : 1 ≤ d) (σ : vMem) (a0 : Nat) (a1 : Nat) (a2 : Nat) (x3 : Int32) : V (P_X10_init l d n0 s0) (vEmb eV) σ 0 [some (.ref a0), some (.ref a1), some (.ref a2), some (.int x3)] [] (f_X10_init σ a0 a1 a2 x3) := by
  have hC : vPx (P_X10_init l d n0 s0) cX10_init 4 "NobodyBeenAft$Rule" none d := vMP_cx
  refine V_eq (f_X10_init.eq_1 ..) ?_
  refine V_aload_n hC dX10_init_0 rfl ?_
  refine V_aload_n hC dX10_init_1 rfl ?_
  refine p_X10_3 hC dX10_init_2 (fun X hX => (vMP_n X hX).trans rfl) (fun σ_1 => ?_)
  refine V_aload_n hC dX10_init_5 rfl ?_
  refine V_aload_n hC dX10_init_6 rfl ?_
  refine V_iload_n hC dX10_init_7 rfl ?_
  refine V_bipush (v := 40) hC dX10_init_8 rfl ?_
  refine V_callI_V (As := [.ref a2, .int x3, .int 40]) (rest := []) (d' := 0) hC dX10_init_10 3 q324 q89 q565 q323 rfl rfl (by decide +kernel) rfl rfl (Nat.le_of_ble_eq_true rfl) (Nat.le_trans (by decide) hd) (by decide) vMP_l (fun _ h => c_X5_init (Nat.le_refl _) h) (fun σ_2 => ?_)
  exact V_return dX10_init_13 rfl rfl
theorem c_X10_init {l : Launch} {d : Nat} (hd : 1 ≤ d) {σ : vMem} {a0 : Nat} {a1 : Nat} {a2 : Nat} {x3 : Int32} {r : vMem} (h : f_X10_init σ a0 a1 a2 x3 = some r) : vOk l yX10_init cX10_init 4 none d [.ref a0, .ref a1, .ref a2, .int x3] σ (.inl ((eV).1 r, (eV).2 r)) := V_method (em := eV) [some (.ref a0), some (.ref a1), some (.ref a2), some (.int x3)] (by decide +kernel) rfl (Nat.le_of_ble_eq_true rfl) (w_X10_init hd σ a0 a1 a2 x3) h
/-! NobodyBeenAft$Rule.value(I)I -/
def f_X10_value (σ : vMem) (a0 : Nat) (x1 : Int32) : Option (Int32) := if ¬ x1 = 108 then (if ¬ x1 = 112 then (if ¬ x1 = 120 then (cko σ a0 [10] (some ((gi σ a0 5) - ((gi σ a0 5) / 12) * 12))) else cko σ a0 [10] (dr (gr σ a0 6) (fun b => cko σ b [1] (bp (f_J7_bitCount σ (gi σ b 10)) (fun r => some r))))) else cko σ a0 [10] (dr (gr σ a0 6) (fun b_1 => cko σ b_1 [1] (some (gi σ b_1 9))))) else cko σ a0 [10] (dr (gr σ a0 6) (fun b_2 => cko σ b_2 [1] (some (gi σ b_2 8))))
abbrev P_X10_value (l : Launch) (d n0 s0 : Nat) : vX → Prop := vMP l yX10_value cX10_value 2 (some .int) d n0 s0
theorem w_X10_value {l : Launch} {d n0 s0 : Nat} (hd : 1 ≤ d) (σ : vMem) (a0 : Nat) (x1 : Int32) : V (P_X10_value l d n0 s0) (vEmb (ePI σ)) σ 0 [some (.ref a0), some (.int x1)] [] (f_X10_value σ a0 x1) := by
  have hC : vPx (P_X10_value l d n0 s0) cX10_value 2 "NobodyBeenAft$Rule" (some .int) d := vMP_cx
  refine V_eq (f_X10_value.eq_1 ..) ?_
  refine V_iload_n hC dX10_value_0 rfl ?_
  refine V_bipush (v := 108) hC dX10_value_1 rfl ?_
  refine V_icmp_ne (tgt := 16) hC dX10_value_3 (by decide) ?_ ?_
  · refine V_iload_n hC dX10_value_16 rfl ?_
    refine V_bipush (v := 112) hC dX10_value_17 rfl ?_
    refine V_icmp_ne (tgt := 32) hC dX10_value_19 (by decide) ?_ ?_
    · refine V_iload_n hC dX10_value_32 rfl ?_
      refine V_bipush (v := 120) hC dX10_value_33 rfl ?_
      refine V_icmp_ne (tgt := 51) hC dX10_value_35 (by decide) ?_ ?_
      · refine V_aload_n hC dX10_value_51 rfl ?_
        refine g_X10_27 hC dX10_value_52 ?_
        refine V_bipush (v := 12) hC dX10_value_55 rfl ?_
        refine V_irem hC dX10_value_57 (by decide) ?_
        exact V_ireturn dX10_value_58 rfl rfl
      · refine V_aload_n hC dX10_value_38 rfl ?_
        refine g_X10_3 hC dX10_value_39 (fun b => ?_)
        refine g_X10_77 hC dX10_value_42 ?_
        refine V_callS_PI (As := [.int (gi σ b 10)]) (rest := []) (d' := 0) hC dX10_value_45 1 (lw_S q623 q624 q103 q625) (by decide +kernel) rfl rfl (Nat.le_of_ble_eq_true rfl) (Nat.le_trans (by decide) hd) (by decide) vMP_l (fun _ h => c_J7_bitCount (Nat.le_refl _) h) (fun r => ?_)
        refine V_goto (tgt := 58) hC dX10_value_48 (by decide) ?_
        exact V_ireturn dX10_value_58 rfl rfl
    · refine V_aload_n hC dX10_value_22 rfl ?_
      refine g_X10_3 hC dX10_value_23 (fun b_1 => ?_)
      refine g_X10_74 hC dX10_value_26 ?_
      refine V_goto (tgt := 58) hC dX10_value_29 (by decide) ?_
      exact V_ireturn dX10_value_58 rfl rfl
  · refine V_aload_n hC dX10_value_6 rfl ?_
    refine g_X10_3 hC dX10_value_7 (fun b_2 => ?_)
    refine g_X10_71 hC dX10_value_10 ?_
    refine V_goto (tgt := 58) hC dX10_value_13 (by decide) ?_
    exact V_ireturn dX10_value_58 rfl rfl
theorem c_X10_value {l : Launch} {d : Nat} (hd : 1 ≤ d) {σ : vMem} {a0 : Nat} {x1 : Int32} {r : Int32} (h : f_X10_value σ a0 x1 = some r) : vOk l yX10_value cX10_value 2 (some .int) d [.ref a0, .int x1] σ (.inl (((ePI σ)).1 r, ((ePI σ)).2 r)) := V_method (em := (ePI σ)) [some (.ref a0), some (.int x1)] (by decide +kernel) rfl (Nat.le_of_ble_eq_true rfl) (w_X10_value hd σ a0 x1) h
/-! NobodyBeenAft$Rule.held(I)I -/
def f_X10_held_b (t_X10_held : vMem → Nat → Int32 → Option ((Int32 × vMem) ⊕ (Nat × vMem))) (t_X10_sum : vMem → Nat → Int32 → Option ((Int32 × vMem) ⊕ (Nat × vMem))) (t_X10_product : vMem → Nat → Int32 → Option ((Int32 × vMem) ⊕ (Nat × vMem))) (t_X10_thing : vMem → Nat → Int32 → Option ((Int32 × vMem) ⊕ (Nat × vMem))) (σ : vMem) (a0 : Nat) (x1 : Int32) : Option ((Int32 × vMem) ⊕ (Nat × vMem)) := cko σ a0 [10] (bx (t_X10_sum σ a0 x1) (fun r σ_1 => cko σ_1 a0 [10] (bd (f_X5_passes σ_1 a0 60) (fun r_1 σ_3 => if r_1 = 0 then (cko σ_3 a0 [10] (bd (f_X5_passes σ_3 a0 62) (fun r_2 σ_4 => if r_2 = 0 then (cko σ_4 a0 [10] (bd (f_X5_passes σ_4 a0 61) (fun r_3 σ_5 => if r_3 = 0 then (some (.inl (r, σ_5))) else cko σ_5 a0 [10] (bx (t_X10_sum σ_5 a0 x1) (fun r_4 σ_6 => if ¬ r = r_4 then (some (.inl (0, σ_6))) else some (.inl (1, σ_6))) (fun b_1 σ_7 => cko σ_7 b_1 [6, 17, 18] (some (.inr (b_1, σ_7)))))))) else cko σ_4 a0 [10] (bx (t_X10_sum σ_4 a0 x1) (fun r_5 σ_8 => if r ≤ r_5 then (some (.inl (0, σ_8))) else some (.inl (1, σ_8))) (fun b_2 σ_9 => cko σ_9 b_2 [6, 17, 18] (some (.inr (b_2, σ_9)))))))) else cko σ_3 a0 [10] (bx (t_X10_sum σ_3 a0 x1) (fun r_6 σ_10 => if r_6 ≤ r then (some (.inl (0, σ_10))) else some (.inl (1, σ_10))) (fun b_3 σ_11 => cko σ_11 b_3 [6, 17, 18] (some (.inr (b_3, σ_11)))))))) (fun b σ_2 => cko σ_2 b [6, 17, 18] (some (.inr (b, σ_2)))))
abbrev P_X10_held (l : Launch) (d n0 s0 : Nat) : vX → Prop := vMX l yX10_held cX10_held 3 (some .int) [] d n0 s0
theorem w_X10_held {l : Launch} {d n0 s0 : Nat} (hd : 2 ≤ d) (h0 : l.stackTraces = false) (t_X10_held : vMem → Nat → Int32 → Option ((Int32 × vMem) ⊕ (Nat × vMem))) (t_X10_sum : vMem → Nat → Int32 → Option ((Int32 × vMem) ⊕ (Nat × vMem))) (t_X10_product : vMem → Nat → Int32 → Option ((Int32 × vMem) ⊕ (Nat × vMem))) (t_X10_thing : vMem → Nat → Int32 → Option ((Int32 × vMem) ⊕ (Nat × vMem))) {d1 : Nat} (hd1 : d1 + 1 ≤ d) (h_X10_held : ∀ {σ : vMem} {a0 : Nat} {x1 : Int32} {r : (Int32 × vMem) ⊕ (Nat × vMem)}, t_X10_held σ a0 x1 = some r → vOx l yX10_held (ws_ yX10_held cX10_held 3 (some .int)) d1 [.ref a0, .int x1] σ (xI r)) (h_X10_sum : ∀ {σ : vMem} {a0 : Nat} {x1 : Int32} {r : (Int32 × vMem) ⊕ (Nat × vMem)}, t_X10_sum σ a0 x1 = some r → vOx l yX10_sum (ws_ yX10_sum cX10_sum 5 (some .int)) d1 [.ref a0, .int x1] σ (xI r)) (h_X10_product : ∀ {σ : vMem} {a0 : Nat} {x1 : Int32} {r : (Int32 × vMem) ⊕ (Nat × vMem)}, t_X10_product σ a0 x1 = some r → vOx l yX10_product (ws_ yX10_product cX10_product 5 (some .int)) d1 [.ref a0, .int x1] σ (xI r)) (h_X10_thing : ∀ {σ : vMem} {a0 : Nat} {x1 : Int32} {r : (Int32 × vMem) ⊕ (Nat × vMem)}, t_X10_thing σ a0 x1 = some r → vOx l yX10_thing (ws_ yX10_thing cX10_thing 3 (some .int)) d1 [.ref a0, .int x1] σ (xI r)) (σ : vMem) (a0 : Nat) (x1 : Int32) : V (P_X10_held l d n0 s0) xI σ 0 [some (.ref a0), some (.int x1), none] [] (f_X10_held_b t_X10_held t_X10_sum t_X10_product t_X10_thing σ a0 x1) := by
  have hC : vPx (P_X10_held l d n0 s0) cX10_held 3 "NobodyBeenAft$Rule" (some .int) d := vMX_cx
  refine V_eq (f_X10_held_b.eq_1 ..) ?_
  refine V_aload_n hC dX10_held_0 rfl ?_
  refine V_iload_n hC dX10_held_1 rfl ?_
  refine V_cko (fun hm => V_xcallV_I (c := 10) (As := [.int x1]) (rest := []) (d' := d1) hC dX10_held_2 1 (lw_V q588 q590 qs3 q102 q591) (by decide +kernel) (List.mem_singleton.mp hm) (by decide) (by decide) rfl rfl rfl (Nat.le_of_ble_eq_true rfl) hd1 (by decide) vMX_l (fun _ h => h_X10_sum h) (fun r σ_1 => ?_) (fun b σ_2 => ?_))
  · refine V_istore_n (ls' := [some (.ref a0), some (.int x1), some (.int r)]) hC dX10_held_5 (by decide) rfl rfl ?_
    refine V_aload_n hC dX10_held_6 rfl ?_
    refine V_bipush (v := 60) hC dX10_held_7 rfl ?_
    refine V_cko (fun hm => V_callU_I (C := "NobodyBeenAft$Rule") (owner := "NobodyBeenAft$Words") (c := 10) (As := [.int 60]) (rest := []) (d' := 1) hC dX10_held_9 1 (lw_app (List.forall_mem_cons.mpr ⟨q600, List.forall_mem_cons.mpr ⟨q601, List.forall_mem_cons.mpr ⟨q603, List.forall_mem_cons.mpr ⟨q455, List.forall_mem_cons.mpr ⟨q89, fun _ h => absurd h List.not_mem_nil⟩⟩⟩⟩⟩) (lw_meth q460)) rfl (by decide +kernel) (List.mem_singleton.mp hm) (by decide) (by decide) rfl rfl rfl (Nat.le_of_ble_eq_true rfl) (Nat.le_trans (by decide) hd) (by decide) vMX_l (fun _ h => c_X5_passes (Nat.le_refl _) h) (fun r_1 σ_3 => ?_))
    refine V_if_eq (tgt := 30) hC dX10_held_12 (by decide) ?_ ?_
    · refine V_aload_n hC dX10_held_30 rfl ?_
      refine V_bipush (v := 62) hC dX10_held_31 rfl ?_
      refine V_cko (fun hm => V_callU_I (C := "NobodyBeenAft$Rule") (owner := "NobodyBeenAft$Words") (c := 10) (As := [.int 62]) (rest := []) (d' := 1) hC dX10_held_33 1 (lw_app (List.forall_mem_cons.mpr ⟨q600, List.forall_mem_cons.mpr ⟨q601, List.forall_mem_cons.mpr ⟨q603, List.forall_mem_cons.mpr ⟨q455, List.forall_mem_cons.mpr ⟨q89, fun _ h => absurd h List.not_mem_nil⟩⟩⟩⟩⟩) (lw_meth q460)) rfl (by decide +kernel) (List.mem_singleton.mp hm) (by decide) (by decide) rfl rfl rfl (Nat.le_of_ble_eq_true rfl) (Nat.le_trans (by decide) hd) (by decide) vMX_l (fun _ h => c_X5_passes (Nat.le_refl _) h) (fun r_2 σ_4 => ?_))
      refine V_if_eq (tgt := 54) hC dX10_held_36 (by decide) ?_ ?_
      · refine V_aload_n hC dX10_held_54 rfl ?_
        refine V_bipush (v := 61) hC dX10_held_55 rfl ?_
        refine V_cko (fun hm => V_callU_I (C := "NobodyBeenAft$Rule") (owner := "NobodyBeenAft$Words") (c := 10) (As := [.int 61]) (rest := []) (d' := 1) hC dX10_held_57 1 (lw_app (List.forall_mem_cons.mpr ⟨q600, List.forall_mem_cons.mpr ⟨q601, List.forall_mem_cons.mpr ⟨q603, List.forall_mem_cons.mpr ⟨q455, List.forall_mem_cons.mpr ⟨q89, fun _ h => absurd h List.not_mem_nil⟩⟩⟩⟩⟩) (lw_meth q460)) rfl (by decide +kernel) (List.mem_singleton.mp hm) (by decide) (by decide) rfl rfl rfl (Nat.le_of_ble_eq_true rfl) (Nat.le_trans (by decide) hd) (by decide) vMX_l (fun _ h => c_X5_passes (Nat.le_refl _) h) (fun r_3 σ_5 => ?_))
        refine V_if_eq (tgt := 78) hC dX10_held_60 (by decide) ?_ ?_
        · refine V_iload_n hC dX10_held_78 rfl ?_
          exact V_xireturn dX10_held_79 rfl
        · refine V_iload_n hC dX10_held_63 rfl ?_
          refine V_aload_n hC dX10_held_64 rfl ?_
          refine V_iload_n hC dX10_held_65 rfl ?_
          refine V_cko (fun hm => V_xcallV_I (c := 10) (As := [.int x1]) (rest := [.int r]) (d' := d1) hC dX10_held_66 1 (lw_V q588 q590 qs3 q102 q591) (by decide +kernel) (List.mem_singleton.mp hm) (by decide) (by decide) rfl rfl rfl (Nat.le_of_ble_eq_true rfl) hd1 (by decide) vMX_l (fun _ h => h_X10_sum h) (fun r_4 σ_6 => ?_) (fun b_1 σ_7 => ?_))
          · refine V_icmp_ne (tgt := 76) hC dX10_held_69 (by decide) ?_ ?_
            · refine V_iconst (v := 0) hC dX10_held_76 rfl ?_
              exact V_xireturn dX10_held_77 rfl
            · refine V_iconst (v := 1) hC dX10_held_72 rfl ?_
              refine V_goto (tgt := 77) hC dX10_held_73 (by decide) ?_
              exact V_xireturn dX10_held_77 rfl
          · exact VT_outS (by decide) rfl
      · refine V_iload_n hC dX10_held_39 rfl ?_
        refine V_aload_n hC dX10_held_40 rfl ?_
        refine V_iload_n hC dX10_held_41 rfl ?_
        refine V_cko (fun hm => V_xcallV_I (c := 10) (As := [.int x1]) (rest := [.int r]) (d' := d1) hC dX10_held_42 1 (lw_V q588 q590 qs3 q102 q591) (by decide +kernel) (List.mem_singleton.mp hm) (by decide) (by decide) rfl rfl rfl (Nat.le_of_ble_eq_true rfl) hd1 (by decide) vMX_l (fun _ h => h_X10_sum h) (fun r_5 σ_8 => ?_) (fun b_2 σ_9 => ?_))
        · refine V_icmp_le (tgt := 52) hC dX10_held_45 (by decide) ?_ ?_
          · refine V_iconst (v := 0) hC dX10_held_52 rfl ?_
            exact V_xireturn dX10_held_53 rfl
          · refine V_iconst (v := 1) hC dX10_held_48 rfl ?_
            refine V_goto (tgt := 53) hC dX10_held_49 (by decide) ?_
            exact V_xireturn dX10_held_53 rfl
        · exact VT_outS (by decide) rfl
    · refine V_iload_n hC dX10_held_15 rfl ?_
      refine V_aload_n hC dX10_held_16 rfl ?_
      refine V_iload_n hC dX10_held_17 rfl ?_
      refine V_cko (fun hm => V_xcallV_I (c := 10) (As := [.int x1]) (rest := [.int r]) (d' := d1) hC dX10_held_18 1 (lw_V q588 q590 qs3 q102 q591) (by decide +kernel) (List.mem_singleton.mp hm) (by decide) (by decide) rfl rfl rfl (Nat.le_of_ble_eq_true rfl) hd1 (by decide) vMX_l (fun _ h => h_X10_sum h) (fun r_6 σ_10 => ?_) (fun b_3 σ_11 => ?_))
      · refine V_icmp_ge (tgt := 28) hC dX10_held_21 (by decide) ?_ ?_
        · refine V_iconst (v := 0) hC dX10_held_28 rfl ?_
          exact V_xireturn dX10_held_29 rfl
        · refine V_iconst (v := 1) hC dX10_held_24 rfl ?_
          refine V_goto (tgt := 29) hC dX10_held_25 (by decide) ?_
          exact V_xireturn dX10_held_29 rfl
      · exact VT_outS (by decide) rfl
  · exact VT_outS (by decide) rfl
theorem c_X10_held_b {l : Launch} {d : Nat} (hd : 2 ≤ d) (h0 : l.stackTraces = false) (t_X10_held : vMem → Nat → Int32 → Option ((Int32 × vMem) ⊕ (Nat × vMem))) (t_X10_sum : vMem → Nat → Int32 → Option ((Int32 × vMem) ⊕ (Nat × vMem))) (t_X10_product : vMem → Nat → Int32 → Option ((Int32 × vMem) ⊕ (Nat × vMem))) (t_X10_thing : vMem → Nat → Int32 → Option ((Int32 × vMem) ⊕ (Nat × vMem))) {d1 : Nat} (hd1 : d1 + 1 ≤ d) (h_X10_held : ∀ {σ : vMem} {a0 : Nat} {x1 : Int32} {r : (Int32 × vMem) ⊕ (Nat × vMem)}, t_X10_held σ a0 x1 = some r → vOx l yX10_held (ws_ yX10_held cX10_held 3 (some .int)) d1 [.ref a0, .int x1] σ (xI r)) (h_X10_sum : ∀ {σ : vMem} {a0 : Nat} {x1 : Int32} {r : (Int32 × vMem) ⊕ (Nat × vMem)}, t_X10_sum σ a0 x1 = some r → vOx l yX10_sum (ws_ yX10_sum cX10_sum 5 (some .int)) d1 [.ref a0, .int x1] σ (xI r)) (h_X10_product : ∀ {σ : vMem} {a0 : Nat} {x1 : Int32} {r : (Int32 × vMem) ⊕ (Nat × vMem)}, t_X10_product σ a0 x1 = some r → vOx l yX10_product (ws_ yX10_product cX10_product 5 (some .int)) d1 [.ref a0, .int x1] σ (xI r)) (h_X10_thing : ∀ {σ : vMem} {a0 : Nat} {x1 : Int32} {r : (Int32 × vMem) ⊕ (Nat × vMem)}, t_X10_thing σ a0 x1 = some r → vOx l yX10_thing (ws_ yX10_thing cX10_thing 3 (some .int)) d1 [.ref a0, .int x1] σ (xI r)) {σ : vMem} {a0 : Nat} {x1 : Int32} {r : (Int32 × vMem) ⊕ (Nat × vMem)} (h : f_X10_held_b t_X10_held t_X10_sum t_X10_product t_X10_thing σ a0 x1 = some r) : vOx l yX10_held (ws_ yX10_held cX10_held 3 (some .int)) d [.ref a0, .int x1] σ (xI r) := V_xmethod (em := xI) [some (.ref a0), some (.int x1), none] (by decide +kernel) rfl (Nat.le_of_ble_eq_true rfl) (w_X10_held hd h0 t_X10_held t_X10_sum t_X10_product t_X10_thing hd1 h_X10_held h_X10_sum h_X10_product h_X10_thing σ a0 x1) h
/-! NobodyBeenAft$Rule.sum(I)I -/
def f_X10_sum_6 (t_X10_product : vMem → Nat → Int32 → Option ((Int32 × vMem) ⊕ (Nat × vMem))) (a0 : Nat) (x1 : Int32) : Nat → vMem → Int32 → Option ((Int32 × vMem) ⊕ (Nat × vMem))
  | 0, _, _ => none
  | n + 1, σ_3, v2 => cko σ_3 a0 [10] (bp (f_X5_here σ_3 a0) (fun r_1 => vl (cko σ_3 a0 [10] (bp (f_X5_here σ_3 a0) (fun r_2 => vl (fun (y : Int32) => cko σ_3 a0 [10] (cko σ_3 a0 [10] (vl (si σ_3 a0 3 ((gi σ_3 a0 3) + 1)) (fun σ_4 => cko σ_4 a0 [10] (bx (t_X10_product σ_4 a0 x1) (fun r_3 σ_5 => vl (fun (y_1 : Int32) => f_X10_sum_6 t_X10_product a0 x1 n σ_5 y_1) (fun k_2 => if y = 0 then (k_2 (v2 - r_3)) else k_2 (v2 + r_3))) (fun b_1 σ_6 => cko σ_6 b_1 [6, 17, 18] (some (.inr (b_1, σ_6))))))))) (fun k_1 => if ¬ r_2 = 43 then (k_1 0) else k_1 1)))) (fun k => if r_1 = 43 then k else cko σ_3 a0 [10] (bp (f_X5_here σ_3 a0) (fun r_4 => if ¬ r_4 = 45 then (some (.inl (v2, σ_3))) else k)))))
def f_X10_sum_b (t_X10_held : vMem → Nat → Int32 → Option ((Int32 × vMem) ⊕ (Nat × vMem))) (t_X10_sum : vMem → Nat → Int32 → Option ((Int32 × vMem) ⊕ (Nat × vMem))) (t_X10_product : vMem → Nat → Int32 → Option ((Int32 × vMem) ⊕ (Nat × vMem))) (t_X10_thing : vMem → Nat → Int32 → Option ((Int32 × vMem) ⊕ (Nat × vMem))) (σ : vMem) (a0 : Nat) (x1 : Int32) : Option ((Int32 × vMem) ⊕ (Nat × vMem)) := cko σ a0 [10] (bx (t_X10_product σ a0 x1) (fun r σ_1 => f_X10_sum_6 t_X10_product a0 x1 FU σ_1 r) (fun b σ_2 => cko σ_2 b [6, 17, 18] (some (.inr (b, σ_2)))))
abbrev P_X10_sum (l : Launch) (d n0 s0 : Nat) : vX → Prop := vMX l yX10_sum cX10_sum 5 (some .int) [] d n0 s0
theorem w_X10_sum_6 {l : Launch} {d n0 s0 : Nat} (hd : 1 ≤ d) (h0 : l.stackTraces = false) {d1 : Nat} (t_X10_product : vMem → Nat → Int32 → Option ((Int32 × vMem) ⊕ (Nat × vMem))) (a0 : Nat) (x1 : Int32) (hd1 : d1 + 1 ≤ d) (h_X10_product : ∀ {σ : vMem} {a0 : Nat} {x1 : Int32} {r : (Int32 × vMem) ⊕ (Nat × vMem)}, t_X10_product σ a0 x1 = some r → vOx l yX10_product (ws_ yX10_product cX10_product 5 (some .int)) d1 [.ref a0, .int x1] σ (xI r)) : ∀ (n : Nat) (σ_3 : vMem) (v2 : Int32), V (P_X10_sum l d n0 s0) xI σ_3 6 [some (.ref a0), some (.int x1), some (.int v2), none, none] [] (f_X10_sum_6 t_X10_product a0 x1 n σ_3 v2) := by
  have hC : vPx (P_X10_sum l d n0 s0) cX10_sum 5 "NobodyBeenAft$Rule" (some .int) d := vMX_cx
  intro n
  induction n with
  | zero =>
    intro σ_3 v2
    exact V_none
  | succ n ih =>
    intro σ_3 v2
    refine V_eq (f_X10_sum_6.eq_2 ..) ?_
    refine V_aload_n hC dX10_sum_6 rfl ?_
    refine V_cko (fun hm => V_callU_PI (C := "NobodyBeenAft$Rule") (owner := "NobodyBeenAft$Words") (c := 10) (As := []) (rest := []) (d' := 0) hC dX10_sum_7 0 (lw_app (List.forall_mem_cons.mpr ⟨q604, List.forall_mem_cons.mpr ⟨q605, List.forall_mem_cons.mpr ⟨q607, List.forall_mem_cons.mpr ⟨q375, List.forall_mem_cons.mpr ⟨q89, fun _ h => absurd h List.not_mem_nil⟩⟩⟩⟩⟩) (lw_meth q380)) rfl (by decide +kernel) (List.mem_singleton.mp hm) (by decide) (by decide) rfl rfl rfl (Nat.le_of_ble_eq_true rfl) (Nat.le_trans (by decide) hd) (by decide) vMX_l (fun _ h => c_X5_here (Nat.le_refl _) h) (fun r_1 => ?_))
    refine V_bipush (v := 43) hC dX10_sum_10 rfl ?_
    refine V_let (B := fun k => V (P_X10_sum l d n0 s0) xI σ_3 24 [some (.ref a0), some (.int x1), some (.int v2), none, none] [] (k)) ?_ ?_
    · skip
      refine V_aload_n hC dX10_sum_24 rfl ?_
      refine V_cko (fun hm => V_callU_PI (C := "NobodyBeenAft$Rule") (owner := "NobodyBeenAft$Words") (c := 10) (As := []) (rest := []) (d' := 0) hC dX10_sum_25 0 (lw_app (List.forall_mem_cons.mpr ⟨q604, List.forall_mem_cons.mpr ⟨q605, List.forall_mem_cons.mpr ⟨q607, List.forall_mem_cons.mpr ⟨q375, List.forall_mem_cons.mpr ⟨q89, fun _ h => absurd h List.not_mem_nil⟩⟩⟩⟩⟩) (lw_meth q380)) rfl (by decide +kernel) (List.mem_singleton.mp hm) (by decide) (by decide) rfl rfl rfl (Nat.le_of_ble_eq_true rfl) (Nat.le_trans (by decide) hd) (by decide) vMX_l (fun _ h => c_X5_here (Nat.le_refl _) h) (fun r_2 => ?_))
      refine V_bipush (v := 43) hC dX10_sum_28 rfl ?_
      refine V_let (B := fun k_1 => ∀ (y : Int32), V (P_X10_sum l d n0 s0) xI σ_3 38 [some (.ref a0), some (.int x1), some (.int v2), none, none] [.int y] (k_1 y)) ?_ ?_
      · intro y
        refine V_istore_n (ls' := [some (.ref a0), some (.int x1), some (.int v2), some (.int y), none]) hC dX10_sum_38 (by decide) rfl rfl ?_
        refine V_aload_n hC dX10_sum_39 rfl ?_
        refine V_dup hC dX10_sum_40 rfl ?_
        refine g_X10_31 hC dX10_sum_41 ?_
        refine V_iconst (v := 1) hC dX10_sum_44 rfl ?_
        refine V_iadd hC dX10_sum_45 ?_
        refine p_X10_31 hC dX10_sum_46 (fun σ_4 => ?_)
        refine V_aload_n hC dX10_sum_49 rfl ?_
        refine V_iload_n hC dX10_sum_50 rfl ?_
        refine V_cko (fun hm => V_xcallV_I (c := 10) (As := [.int x1]) (rest := []) (d' := d1) hC dX10_sum_51 1 (lw_V q592 q594 qs4 q102 q595) (by decide +kernel) (List.mem_singleton.mp hm) (by decide) (by decide) rfl rfl rfl (Nat.le_of_ble_eq_true rfl) hd1 (by decide) vMX_l (fun _ h => h_X10_product h) (fun r_3 σ_5 => ?_) (fun b_1 σ_6 => ?_))
        · refine V_istore (ls' := [some (.ref a0), some (.int x1), some (.int v2), some (.int y), some (.int r_3)]) hC dX10_sum_54 (by decide) rfl rfl ?_
          refine V_iload_n hC dX10_sum_56 rfl ?_
          refine V_let (B := fun k_2 => ∀ (y_1 : Int32), V (P_X10_sum l d n0 s0) xI σ_5 71 [some (.ref a0), some (.int x1), none, none, none] [.int y_1] (k_2 y_1)) ?_ ?_
          · intro y_1
            refine V_istore_n (ls' := [some (.ref a0), some (.int x1), some (.int y_1), none, none]) hC dX10_sum_71 (by decide) rfl rfl ?_
            refine V_goto (tgt := 6) hC dX10_sum_72 (by decide) ?_
            exact ih σ_5 y_1
          · intro k_2 hk_2
            refine V_if_eq (tgt := 67) hC dX10_sum_57 (by decide) ?_ ?_
            · refine V_iload_n hC dX10_sum_67 rfl ?_
              refine V_iload hC dX10_sum_68 rfl ?_
              refine V_isub hC dX10_sum_70 ?_
              refine V_clr [2, 3, 4] (ls' := [some (.ref a0), some (.int x1), none, none, none]) rfl ?_
              exact hk_2 (v2 - r_3)
            · refine V_iload_n hC dX10_sum_60 rfl ?_
              refine V_iload hC dX10_sum_61 rfl ?_
              refine V_iadd hC dX10_sum_63 ?_
              refine V_goto (tgt := 71) hC dX10_sum_64 (by decide) ?_
              refine V_clr [2, 3, 4] (ls' := [some (.ref a0), some (.int x1), none, none, none]) rfl ?_
              exact hk_2 (v2 + r_3)
        · exact VT_outS (by decide) rfl
      · intro k_1 hk_1
        refine V_icmp_ne (tgt := 37) hC dX10_sum_30 (by decide) ?_ ?_
        · refine V_iconst (v := 0) hC dX10_sum_37 rfl ?_
          exact hk_1 0
        · refine V_iconst (v := 1) hC dX10_sum_33 rfl ?_
          refine V_goto (tgt := 38) hC dX10_sum_34 (by decide) ?_
          exact hk_1 1
    · intro k hk
      refine V_icmp_eq (tgt := 24) hC dX10_sum_12 (by decide) ?_ ?_
      · exact hk
      · refine V_aload_n hC dX10_sum_15 rfl ?_
        refine V_cko (fun hm => V_callU_PI (C := "NobodyBeenAft$Rule") (owner := "NobodyBeenAft$Words") (c := 10) (As := []) (rest := []) (d' := 0) hC dX10_sum_16 0 (lw_app (List.forall_mem_cons.mpr ⟨q604, List.forall_mem_cons.mpr ⟨q605, List.forall_mem_cons.mpr ⟨q607, List.forall_mem_cons.mpr ⟨q375, List.forall_mem_cons.mpr ⟨q89, fun _ h => absurd h List.not_mem_nil⟩⟩⟩⟩⟩) (lw_meth q380)) rfl (by decide +kernel) (List.mem_singleton.mp hm) (by decide) (by decide) rfl rfl rfl (Nat.le_of_ble_eq_true rfl) (Nat.le_trans (by decide) hd) (by decide) vMX_l (fun _ h => c_X5_here (Nat.le_refl _) h) (fun r_4 => ?_))
        refine V_bipush (v := 45) hC dX10_sum_19 rfl ?_
        refine V_icmp_ne (tgt := 75) hC dX10_sum_21 (by decide) ?_ ?_
        · refine V_iload_n hC dX10_sum_75 rfl ?_
          exact V_xireturn dX10_sum_76 rfl
        · exact hk
theorem w_X10_sum {l : Launch} {d n0 s0 : Nat} (hd : 1 ≤ d) (h0 : l.stackTraces = false) (t_X10_held : vMem → Nat → Int32 → Option ((Int32 × vMem) ⊕ (Nat × vMem))) (t_X10_sum : vMem → Nat → Int32 → Option ((Int32 × vMem) ⊕ (Nat × vMem))) (t_X10_product : vMem → Nat → Int32 → Option ((Int32 × vMem) ⊕ (Nat × vMem))) (t_X10_thing : vMem → Nat → Int32 → Option ((Int32 × vMem) ⊕ (Nat × vMem))) {d1 : Nat} (hd1 : d1 + 1 ≤ d) (h_X10_held : ∀ {σ : vMem} {a0 : Nat} {x1 : Int32} {r : (Int32 × vMem) ⊕ (Nat × vMem)}, t_X10_held σ a0 x1 = some r → vOx l yX10_held (ws_ yX10_held cX10_held 3 (some .int)) d1 [.ref a0, .int x1] σ (xI r)) (h_X10_sum : ∀ {σ : vMem} {a0 : Nat} {x1 : Int32} {r : (Int32 × vMem) ⊕ (Nat × vMem)}, t_X10_sum σ a0 x1 = some r → vOx l yX10_sum (ws_ yX10_sum cX10_sum 5 (some .int)) d1 [.ref a0, .int x1] σ (xI r)) (h_X10_product : ∀ {σ : vMem} {a0 : Nat} {x1 : Int32} {r : (Int32 × vMem) ⊕ (Nat × vMem)}, t_X10_product σ a0 x1 = some r → vOx l yX10_product (ws_ yX10_product cX10_product 5 (some .int)) d1 [.ref a0, .int x1] σ (xI r)) (h_X10_thing : ∀ {σ : vMem} {a0 : Nat} {x1 : Int32} {r : (Int32 × vMem) ⊕ (Nat × vMem)}, t_X10_thing σ a0 x1 = some r → vOx l yX10_thing (ws_ yX10_thing cX10_thing 3 (some .int)) d1 [.ref a0, .int x1] σ (xI r)) (σ : vMem) (a0 : Nat) (x1 : Int32) : V (P_X10_sum l d n0 s0) xI σ 0 [some (.ref a0), some (.int x1), none, none, none] [] (f_X10_sum_b t_X10_held t_X10_sum t_X10_product t_X10_thing σ a0 x1) := by
  have hC : vPx (P_X10_sum l d n0 s0) cX10_sum 5 "NobodyBeenAft$Rule" (some .int) d := vMX_cx
  refine V_eq (f_X10_sum_b.eq_1 ..) ?_
  refine V_aload_n hC dX10_sum_0 rfl ?_
  refine V_iload_n hC dX10_sum_1 rfl ?_
  refine V_cko (fun hm => V_xcallV_I (c := 10) (As := [.int x1]) (rest := []) (d' := d1) hC dX10_sum_2 1 (lw_V q592 q594 qs4 q102 q595) (by decide +kernel) (List.mem_singleton.mp hm) (by decide) (by decide) rfl rfl rfl (Nat.le_of_ble_eq_true rfl) hd1 (by decide) vMX_l (fun _ h => h_X10_product h) (fun r σ_1 => ?_) (fun b σ_2 => ?_))
  · refine V_istore_n (ls' := [some (.ref a0), some (.int x1), some (.int r), none, none]) hC dX10_sum_5 (by decide) rfl rfl ?_
    exact (w_X10_sum_6 hd h0 t_X10_product a0 x1 hd1 h_X10_product) FU σ_1 r
  · exact VT_outS (by decide) rfl
theorem c_X10_sum_b {l : Launch} {d : Nat} (hd : 1 ≤ d) (h0 : l.stackTraces = false) (t_X10_held : vMem → Nat → Int32 → Option ((Int32 × vMem) ⊕ (Nat × vMem))) (t_X10_sum : vMem → Nat → Int32 → Option ((Int32 × vMem) ⊕ (Nat × vMem))) (t_X10_product : vMem → Nat → Int32 → Option ((Int32 × vMem) ⊕ (Nat × vMem))) (t_X10_thing : vMem → Nat → Int32 → Option ((Int32 × vMem) ⊕ (Nat × vMem))) {d1 : Nat} (hd1 : d1 + 1 ≤ d) (h_X10_held : ∀ {σ : vMem} {a0 : Nat} {x1 : Int32} {r : (Int32 × vMem) ⊕ (Nat × vMem)}, t_X10_held σ a0 x1 = some r → vOx l yX10_held (ws_ yX10_held cX10_held 3 (some .int)) d1 [.ref a0, .int x1] σ (xI r)) (h_X10_sum : ∀ {σ : vMem} {a0 : Nat} {x1 : Int32} {r : (Int32 × vMem) ⊕ (Nat × vMem)}, t_X10_sum σ a0 x1 = some r → vOx l yX10_sum (ws_ yX10_sum cX10_sum 5 (some .int)) d1 [.ref a0, .int x1] σ (xI r)) (h_X10_product : ∀ {σ : vMem} {a0 : Nat} {x1 : Int32} {r : (Int32 × vMem) ⊕ (Nat × vMem)}, t_X10_product σ a0 x1 = some r → vOx l yX10_product (ws_ yX10_product cX10_product 5 (some .int)) d1 [.ref a0, .int x1] σ (xI r)) (h_X10_thing : ∀ {σ : vMem} {a0 : Nat} {x1 : Int32} {r : (Int32 × vMem) ⊕ (Nat × vMem)}, t_X10_thing σ a0 x1 = some r → vOx l yX10_thing (ws_ yX10_thing cX10_thing 3 (some .int)) d1 [.ref a0, .int x1] σ (xI r)) {σ : vMem} {a0 : Nat} {x1 : Int32} {r : (Int32 × vMem) ⊕ (Nat × vMem)} (h : f_X10_sum_b t_X10_held t_X10_sum t_X10_product t_X10_thing σ a0 x1 = some r) : vOx l yX10_sum (ws_ yX10_sum cX10_sum 5 (some .int)) d [.ref a0, .int x1] σ (xI r) := V_xmethod (em := xI) [some (.ref a0), some (.int x1), none, none, none] (by decide +kernel) rfl (Nat.le_of_ble_eq_true rfl) (w_X10_sum hd h0 t_X10_held t_X10_sum t_X10_product t_X10_thing hd1 h_X10_held h_X10_sum h_X10_product h_X10_thing σ a0 x1) h
/-! NobodyBeenAft$Rule.product(I)I -/
def f_X10_product_6 (t_X10_thing : vMem → Nat → Int32 → Option ((Int32 × vMem) ⊕ (Nat × vMem))) (a0 : Nat) (x1 : Int32) : Nat → vMem → Int32 → Option ((Int32 × vMem) ⊕ (Nat × vMem))
  | 0, _, _ => none
  | n + 1, σ_3, v2 => cko σ_3 a0 [10] (bp (f_X5_here σ_3 a0) (fun r_1 => vl (cko σ_3 a0 [10] (bp (f_X5_here σ_3 a0) (fun r_2 => vl (fun (y : Int32) => cko σ_3 a0 [10] (cko σ_3 a0 [10] (vl (si σ_3 a0 3 ((gi σ_3 a0 3) + 1)) (fun σ_4 => cko σ_4 a0 [10] (bx (t_X10_thing σ_4 a0 x1) (fun r_3 σ_5 => vl (fun (y_1 : Int32) => f_X10_product_6 t_X10_thing a0 x1 n σ_5 y_1) (fun k_2 => if y = 0 then (if ¬ r_3 = 0 then (ck (¬ r_3 = 0) (k_2 (v2 / r_3))) else k_2 0) else k_2 (v2 * r_3))) (fun b_1 σ_6 => cko σ_6 b_1 [6, 17, 18] (some (.inr (b_1, σ_6))))))))) (fun k_1 => if ¬ r_2 = 42 then (k_1 0) else k_1 1)))) (fun k => if r_1 = 42 then k else cko σ_3 a0 [10] (bp (f_X5_here σ_3 a0) (fun r_4 => if ¬ r_4 = 47 then (some (.inl (v2, σ_3))) else k)))))
def f_X10_product_b (t_X10_held : vMem → Nat → Int32 → Option ((Int32 × vMem) ⊕ (Nat × vMem))) (t_X10_sum : vMem → Nat → Int32 → Option ((Int32 × vMem) ⊕ (Nat × vMem))) (t_X10_product : vMem → Nat → Int32 → Option ((Int32 × vMem) ⊕ (Nat × vMem))) (t_X10_thing : vMem → Nat → Int32 → Option ((Int32 × vMem) ⊕ (Nat × vMem))) (σ : vMem) (a0 : Nat) (x1 : Int32) : Option ((Int32 × vMem) ⊕ (Nat × vMem)) := cko σ a0 [10] (bx (t_X10_thing σ a0 x1) (fun r σ_1 => f_X10_product_6 t_X10_thing a0 x1 FU σ_1 r) (fun b σ_2 => cko σ_2 b [6, 17, 18] (some (.inr (b, σ_2)))))
abbrev P_X10_product (l : Launch) (d n0 s0 : Nat) : vX → Prop := vMX l yX10_product cX10_product 5 (some .int) [] d n0 s0
theorem w_X10_product_6 {l : Launch} {d n0 s0 : Nat} (hd : 1 ≤ d) (h0 : l.stackTraces = false) {d1 : Nat} (t_X10_thing : vMem → Nat → Int32 → Option ((Int32 × vMem) ⊕ (Nat × vMem))) (a0 : Nat) (x1 : Int32) (hd1 : d1 + 1 ≤ d) (h_X10_thing : ∀ {σ : vMem} {a0 : Nat} {x1 : Int32} {r : (Int32 × vMem) ⊕ (Nat × vMem)}, t_X10_thing σ a0 x1 = some r → vOx l yX10_thing (ws_ yX10_thing cX10_thing 3 (some .int)) d1 [.ref a0, .int x1] σ (xI r)) : ∀ (n : Nat) (σ_3 : vMem) (v2 : Int32), V (P_X10_product l d n0 s0) xI σ_3 6 [some (.ref a0), some (.int x1), some (.int v2), none, none] [] (f_X10_product_6 t_X10_thing a0 x1 n σ_3 v2) := by
  have hC : vPx (P_X10_product l d n0 s0) cX10_product 5 "NobodyBeenAft$Rule" (some .int) d := vMX_cx
  intro n
  induction n with
  | zero =>
    intro σ_3 v2
    exact V_none
  | succ n ih =>
    intro σ_3 v2
    refine V_eq (f_X10_product_6.eq_2 ..) ?_
    refine V_aload_n hC dX10_product_6 rfl ?_
    refine V_cko (fun hm => V_callU_PI (C := "NobodyBeenAft$Rule") (owner := "NobodyBeenAft$Words") (c := 10) (As := []) (rest := []) (d' := 0) hC dX10_product_7 0 (lw_app (List.forall_mem_cons.mpr ⟨q604, List.forall_mem_cons.mpr ⟨q605, List.forall_mem_cons.mpr ⟨q607, List.forall_mem_cons.mpr ⟨q375, List.forall_mem_cons.mpr ⟨q89, fun _ h => absurd h List.not_mem_nil⟩⟩⟩⟩⟩) (lw_meth q380)) rfl (by decide +kernel) (List.mem_singleton.mp hm) (by decide) (by decide) rfl rfl rfl (Nat.le_of_ble_eq_true rfl) (Nat.le_trans (by decide) hd) (by decide) vMX_l (fun _ h => c_X5_here (Nat.le_refl _) h) (fun r_1 => ?_))
    refine V_bipush (v := 42) hC dX10_product_10 rfl ?_
    refine V_let (B := fun k => V (P_X10_product l d n0 s0) xI σ_3 24 [some (.ref a0), some (.int x1), some (.int v2), none, none] [] (k)) ?_ ?_
    · skip
      refine V_aload_n hC dX10_product_24 rfl ?_
      refine V_cko (fun hm => V_callU_PI (C := "NobodyBeenAft$Rule") (owner := "NobodyBeenAft$Words") (c := 10) (As := []) (rest := []) (d' := 0) hC dX10_product_25 0 (lw_app (List.forall_mem_cons.mpr ⟨q604, List.forall_mem_cons.mpr ⟨q605, List.forall_mem_cons.mpr ⟨q607, List.forall_mem_cons.mpr ⟨q375, List.forall_mem_cons.mpr ⟨q89, fun _ h => absurd h List.not_mem_nil⟩⟩⟩⟩⟩) (lw_meth q380)) rfl (by decide +kernel) (List.mem_singleton.mp hm) (by decide) (by decide) rfl rfl rfl (Nat.le_of_ble_eq_true rfl) (Nat.le_trans (by decide) hd) (by decide) vMX_l (fun _ h => c_X5_here (Nat.le_refl _) h) (fun r_2 => ?_))
      refine V_bipush (v := 42) hC dX10_product_28 rfl ?_
      refine V_let (B := fun k_1 => ∀ (y : Int32), V (P_X10_product l d n0 s0) xI σ_3 38 [some (.ref a0), some (.int x1), some (.int v2), none, none] [.int y] (k_1 y)) ?_ ?_
      · intro y
        refine V_istore_n (ls' := [some (.ref a0), some (.int x1), some (.int v2), some (.int y), none]) hC dX10_product_38 (by decide) rfl rfl ?_
        refine V_aload_n hC dX10_product_39 rfl ?_
        refine V_dup hC dX10_product_40 rfl ?_
        refine g_X10_31 hC dX10_product_41 ?_
        refine V_iconst (v := 1) hC dX10_product_44 rfl ?_
        refine V_iadd hC dX10_product_45 ?_
        refine p_X10_31 hC dX10_product_46 (fun σ_4 => ?_)
        refine V_aload_n hC dX10_product_49 rfl ?_
        refine V_iload_n hC dX10_product_50 rfl ?_
        refine V_cko (fun hm => V_xcallV_I (c := 10) (As := [.int x1]) (rest := []) (d' := d1) hC dX10_product_51 1 (lw_V q596 q598 qs5 q102 q599) (by decide +kernel) (List.mem_singleton.mp hm) (by decide) (by decide) rfl rfl rfl (Nat.le_of_ble_eq_true rfl) hd1 (by decide) vMX_l (fun _ h => h_X10_thing h) (fun r_3 σ_5 => ?_) (fun b_1 σ_6 => ?_))
        · refine V_istore (ls' := [some (.ref a0), some (.int x1), some (.int v2), some (.int y), some (.int r_3)]) hC dX10_product_54 (by decide) rfl rfl ?_
          refine V_iload_n hC dX10_product_56 rfl ?_
          refine V_let (B := fun k_2 => ∀ (y_1 : Int32), V (P_X10_product l d n0 s0) xI σ_5 80 [some (.ref a0), some (.int x1), none, none, none] [.int y_1] (k_2 y_1)) ?_ ?_
          · intro y_1
            refine V_istore_n (ls' := [some (.ref a0), some (.int x1), some (.int y_1), none, none]) hC dX10_product_80 (by decide) rfl rfl ?_
            refine V_goto (tgt := 6) hC dX10_product_81 (by decide) ?_
            exact ih σ_5 y_1
          · intro k_2 hk_2
            refine V_if_eq (tgt := 67) hC dX10_product_57 (by decide) ?_ ?_
            · refine V_iload hC dX10_product_67 rfl ?_
              refine V_if_ne (tgt := 76) hC dX10_product_69 (by decide) ?_ ?_
              · refine V_iload_n hC dX10_product_76 rfl ?_
                refine V_iload hC dX10_product_77 rfl ?_
                refine V_ck (fun h9 => V_idiv hC dX10_product_79 h9 ?_)
                refine V_clr [2, 3, 4] (ls' := [some (.ref a0), some (.int x1), none, none, none]) rfl ?_
                exact hk_2 (v2 / r_3)
              · refine V_iconst (v := 0) hC dX10_product_72 rfl ?_
                refine V_goto (tgt := 80) hC dX10_product_73 (by decide) ?_
                refine V_clr [2, 3, 4] (ls' := [some (.ref a0), some (.int x1), none, none, none]) rfl ?_
                exact hk_2 0
            · refine V_iload_n hC dX10_product_60 rfl ?_
              refine V_iload hC dX10_product_61 rfl ?_
              refine V_imul hC dX10_product_63 ?_
              refine V_goto (tgt := 80) hC dX10_product_64 (by decide) ?_
              refine V_clr [2, 3, 4] (ls' := [some (.ref a0), some (.int x1), none, none, none]) rfl ?_
              exact hk_2 (v2 * r_3)
        · exact VT_outS (by decide) rfl
      · intro k_1 hk_1
        refine V_icmp_ne (tgt := 37) hC dX10_product_30 (by decide) ?_ ?_
        · refine V_iconst (v := 0) hC dX10_product_37 rfl ?_
          exact hk_1 0
        · refine V_iconst (v := 1) hC dX10_product_33 rfl ?_
          refine V_goto (tgt := 38) hC dX10_product_34 (by decide) ?_
          exact hk_1 1
    · intro k hk
      refine V_icmp_eq (tgt := 24) hC dX10_product_12 (by decide) ?_ ?_
      · exact hk
      · refine V_aload_n hC dX10_product_15 rfl ?_
        refine V_cko (fun hm => V_callU_PI (C := "NobodyBeenAft$Rule") (owner := "NobodyBeenAft$Words") (c := 10) (As := []) (rest := []) (d' := 0) hC dX10_product_16 0 (lw_app (List.forall_mem_cons.mpr ⟨q604, List.forall_mem_cons.mpr ⟨q605, List.forall_mem_cons.mpr ⟨q607, List.forall_mem_cons.mpr ⟨q375, List.forall_mem_cons.mpr ⟨q89, fun _ h => absurd h List.not_mem_nil⟩⟩⟩⟩⟩) (lw_meth q380)) rfl (by decide +kernel) (List.mem_singleton.mp hm) (by decide) (by decide) rfl rfl rfl (Nat.le_of_ble_eq_true rfl) (Nat.le_trans (by decide) hd) (by decide) vMX_l (fun _ h => c_X5_here (Nat.le_refl _) h) (fun r_4 => ?_))
        refine V_bipush (v := 47) hC dX10_product_19 rfl ?_
        refine V_icmp_ne (tgt := 84) hC dX10_product_21 (by decide) ?_ ?_
        · refine V_iload_n hC dX10_product_84 rfl ?_
          exact V_xireturn dX10_product_85 rfl
        · exact hk
theorem w_X10_product {l : Launch} {d n0 s0 : Nat} (hd : 1 ≤ d) (h0 : l.stackTraces = false) (t_X10_held : vMem → Nat → Int32 → Option ((Int32 × vMem) ⊕ (Nat × vMem))) (t_X10_sum : vMem → Nat → Int32 → Option ((Int32 × vMem) ⊕ (Nat × vMem))) (t_X10_product : vMem → Nat → Int32 → Option ((Int32 × vMem) ⊕ (Nat × vMem))) (t_X10_thing : vMem → Nat → Int32 → Option ((Int32 × vMem) ⊕ (Nat × vMem))) {d1 : Nat} (hd1 : d1 + 1 ≤ d) (h_X10_held : ∀ {σ : vMem} {a0 : Nat} {x1 : Int32} {r : (Int32 × vMem) ⊕ (Nat × vMem)}, t_X10_held σ a0 x1 = some r → vOx l yX10_held (ws_ yX10_held cX10_held 3 (some .int)) d1 [.ref a0, .int x1] σ (xI r)) (h_X10_sum : ∀ {σ : vMem} {a0 : Nat} {x1 : Int32} {r : (Int32 × vMem) ⊕ (Nat × vMem)}, t_X10_sum σ a0 x1 = some r → vOx l yX10_sum (ws_ yX10_sum cX10_sum 5 (some .int)) d1 [.ref a0, .int x1] σ (xI r)) (h_X10_product : ∀ {σ : vMem} {a0 : Nat} {x1 : Int32} {r : (Int32 × vMem) ⊕ (Nat × vMem)}, t_X10_product σ a0 x1 = some r → vOx l yX10_product (ws_ yX10_product cX10_product 5 (some .int)) d1 [.ref a0, .int x1] σ (xI r)) (h_X10_thing : ∀ {σ : vMem} {a0 : Nat} {x1 : Int32} {r : (Int32 × vMem) ⊕ (Nat × vMem)}, t_X10_thing σ a0 x1 = some r → vOx l yX10_thing (ws_ yX10_thing cX10_thing 3 (some .int)) d1 [.ref a0, .int x1] σ (xI r)) (σ : vMem) (a0 : Nat) (x1 : Int32) : V (P_X10_product l d n0 s0) xI σ 0 [some (.ref a0), some (.int x1), none, none, none] [] (f_X10_product_b t_X10_held t_X10_sum t_X10_product t_X10_thing σ a0 x1) := by
  have hC : vPx (P_X10_product l d n0 s0) cX10_product 5 "NobodyBeenAft$Rule" (some .int) d := vMX_cx
  refine V_eq (f_X10_product_b.eq_1 ..) ?_
  refine V_aload_n hC dX10_product_0 rfl ?_
  refine V_iload_n hC dX10_product_1 rfl ?_
  refine V_cko (fun hm => V_xcallV_I (c := 10) (As := [.int x1]) (rest := []) (d' := d1) hC dX10_product_2 1 (lw_V q596 q598 qs5 q102 q599) (by decide +kernel) (List.mem_singleton.mp hm) (by decide) (by decide) rfl rfl rfl (Nat.le_of_ble_eq_true rfl) hd1 (by decide) vMX_l (fun _ h => h_X10_thing h) (fun r σ_1 => ?_) (fun b σ_2 => ?_))
  · refine V_istore_n (ls' := [some (.ref a0), some (.int x1), some (.int r), none, none]) hC dX10_product_5 (by decide) rfl rfl ?_
    exact (w_X10_product_6 hd h0 t_X10_thing a0 x1 hd1 h_X10_thing) FU σ_1 r
  · exact VT_outS (by decide) rfl
theorem c_X10_product_b {l : Launch} {d : Nat} (hd : 1 ≤ d) (h0 : l.stackTraces = false) (t_X10_held : vMem → Nat → Int32 → Option ((Int32 × vMem) ⊕ (Nat × vMem))) (t_X10_sum : vMem → Nat → Int32 → Option ((Int32 × vMem) ⊕ (Nat × vMem))) (t_X10_product : vMem → Nat → Int32 → Option ((Int32 × vMem) ⊕ (Nat × vMem))) (t_X10_thing : vMem → Nat → Int32 → Option ((Int32 × vMem) ⊕ (Nat × vMem))) {d1 : Nat} (hd1 : d1 + 1 ≤ d) (h_X10_held : ∀ {σ : vMem} {a0 : Nat} {x1 : Int32} {r : (Int32 × vMem) ⊕ (Nat × vMem)}, t_X10_held σ a0 x1 = some r → vOx l yX10_held (ws_ yX10_held cX10_held 3 (some .int)) d1 [.ref a0, .int x1] σ (xI r)) (h_X10_sum : ∀ {σ : vMem} {a0 : Nat} {x1 : Int32} {r : (Int32 × vMem) ⊕ (Nat × vMem)}, t_X10_sum σ a0 x1 = some r → vOx l yX10_sum (ws_ yX10_sum cX10_sum 5 (some .int)) d1 [.ref a0, .int x1] σ (xI r)) (h_X10_product : ∀ {σ : vMem} {a0 : Nat} {x1 : Int32} {r : (Int32 × vMem) ⊕ (Nat × vMem)}, t_X10_product σ a0 x1 = some r → vOx l yX10_product (ws_ yX10_product cX10_product 5 (some .int)) d1 [.ref a0, .int x1] σ (xI r)) (h_X10_thing : ∀ {σ : vMem} {a0 : Nat} {x1 : Int32} {r : (Int32 × vMem) ⊕ (Nat × vMem)}, t_X10_thing σ a0 x1 = some r → vOx l yX10_thing (ws_ yX10_thing cX10_thing 3 (some .int)) d1 [.ref a0, .int x1] σ (xI r)) {σ : vMem} {a0 : Nat} {x1 : Int32} {r : (Int32 × vMem) ⊕ (Nat × vMem)} (h : f_X10_product_b t_X10_held t_X10_sum t_X10_product t_X10_thing σ a0 x1 = some r) : vOx l yX10_product (ws_ yX10_product cX10_product 5 (some .int)) d [.ref a0, .int x1] σ (xI r) := V_xmethod (em := xI) [some (.ref a0), some (.int x1), none, none, none] (by decide +kernel) rfl (Nat.le_of_ble_eq_true rfl) (w_X10_product hd h0 t_X10_held t_X10_sum t_X10_product t_X10_thing hd1 h_X10_held h_X10_sum h_X10_product h_X10_thing σ a0 x1) h
/-! NobodyBeenAft$Rule.thing(I)I -/
def f_X10_thing_b (t_X10_held : vMem → Nat → Int32 → Option ((Int32 × vMem) ⊕ (Nat × vMem))) (t_X10_sum : vMem → Nat → Int32 → Option ((Int32 × vMem) ⊕ (Nat × vMem))) (t_X10_product : vMem → Nat → Int32 → Option ((Int32 × vMem) ⊕ (Nat × vMem))) (t_X10_thing : vMem → Nat → Int32 → Option ((Int32 × vMem) ⊕ (Nat × vMem))) (σ : vMem) (a0 : Nat) (x1 : Int32) : Option ((Int32 × vMem) ⊕ (Nat × vMem)) := cko σ a0 [10] (bd (f_X5_passes σ a0 45) (fun r σ_1 => if r = 0 then (cko σ_1 a0 [10] (bp (f_X5_here σ_1 a0) (fun r_1 => if ¬ r_1 = 40 then (cko σ_1 a0 [10] (bp (f_X5_here σ_1 a0) (fun r_2 => bp (f_X1_in σ_1 (Int32.toInt64 r_2) 48 57) (fun r_3 => if r_3 = 0 then (cko σ_1 a0 [10] (bp (f_X5_here σ_1 a0) (fun r_4 => vl (fun (y : Int32) => cko σ_1 a0 [10] (bxv (f_X5_need σ_1 a0 y) (fun σ_2 => cko σ_2 a0 [10] (cko σ_2 a0 [10] (vl (si σ_2 a0 3 ((gi σ_2 a0 3) + 1)) (fun σ_4 => cko σ_4 a0 [10] (if (gi σ_4 a0 4) = 0 then (some (.inl (0, σ_4))) else cko σ_4 a0 [10] (bp (f_X10_value σ_4 a0 r_4) (fun r_5 => some (.inl (r_5, σ_4))))))))) (fun b σ_3 => cko σ_3 b [6, 17, 18] (some (.inr (b, σ_3)))))) (fun k => vl (k 1) (fun k_1 => if r_4 = 108 then k_1 else if r_4 = 112 then k_1 else if r_4 = 120 then k_1 else if ¬ r_4 = 110 then (k 0) else k_1))))) else cko σ_1 a0 [10] (bx (f_X5_number_2 σ_1 a0 3) (fun r_6 σ_5 => some (.inl (r_6, σ_5))) (fun b_1 σ_6 => cko σ_6 b_1 [6, 17, 18] (some (.inr (b_1, σ_6))))))))) else vl (fun (y_1 : Int32) => cko σ_1 a0 [10] (bxv (f_X5_need σ_1 a0 y_1) (fun σ_7 => cko σ_7 a0 [10] (cko σ_7 a0 [10] (vl (si σ_7 a0 3 ((gi σ_7 a0 3) + 1)) (fun σ_9 => cko σ_9 a0 [10] (bx (t_X10_held σ_9 a0 (x1 + 1)) (fun r_7 σ_10 => cko σ_10 a0 [10] (bd (f_X5_passes σ_10 a0 41) (fun r_8 σ_12 => cko σ_12 a0 [10] (bxv (f_X5_need σ_12 a0 r_8) (fun σ_13 => some (.inl (r_7, σ_13))) (fun b_4 σ_14 => cko σ_14 b_4 [6, 17, 18] (some (.inr (b_4, σ_14)))))))) (fun b_3 σ_11 => cko σ_11 b_3 [6, 17, 18] (some (.inr (b_3, σ_11))))))))) (fun b_2 σ_8 => cko σ_8 b_2 [6, 17, 18] (some (.inr (b_2, σ_8)))))) (fun k_2 => if 4 ≤ x1 then (k_2 0) else k_2 1)))) else cko σ_1 a0 [10] (bx (t_X10_thing σ_1 a0 x1) (fun r_9 σ_15 => some (.inl ((-r_9), σ_15))) (fun b_5 σ_16 => cko σ_16 b_5 [6, 17, 18] (some (.inr (b_5, σ_16)))))))
abbrev P_X10_thing (l : Launch) (d n0 s0 : Nat) : vX → Prop := vMX l yX10_thing cX10_thing 3 (some .int) [] d n0 s0
theorem w_X10_thing {l : Launch} {d n0 s0 : Nat} (hd : 7 ≤ d) (h0 : l.stackTraces = false) (t_X10_held : vMem → Nat → Int32 → Option ((Int32 × vMem) ⊕ (Nat × vMem))) (t_X10_sum : vMem → Nat → Int32 → Option ((Int32 × vMem) ⊕ (Nat × vMem))) (t_X10_product : vMem → Nat → Int32 → Option ((Int32 × vMem) ⊕ (Nat × vMem))) (t_X10_thing : vMem → Nat → Int32 → Option ((Int32 × vMem) ⊕ (Nat × vMem))) {d1 : Nat} (hd1 : d1 + 1 ≤ d) (h_X10_held : ∀ {σ : vMem} {a0 : Nat} {x1 : Int32} {r : (Int32 × vMem) ⊕ (Nat × vMem)}, t_X10_held σ a0 x1 = some r → vOx l yX10_held (ws_ yX10_held cX10_held 3 (some .int)) d1 [.ref a0, .int x1] σ (xI r)) (h_X10_sum : ∀ {σ : vMem} {a0 : Nat} {x1 : Int32} {r : (Int32 × vMem) ⊕ (Nat × vMem)}, t_X10_sum σ a0 x1 = some r → vOx l yX10_sum (ws_ yX10_sum cX10_sum 5 (some .int)) d1 [.ref a0, .int x1] σ (xI r)) (h_X10_product : ∀ {σ : vMem} {a0 : Nat} {x1 : Int32} {r : (Int32 × vMem) ⊕ (Nat × vMem)}, t_X10_product σ a0 x1 = some r → vOx l yX10_product (ws_ yX10_product cX10_product 5 (some .int)) d1 [.ref a0, .int x1] σ (xI r)) (h_X10_thing : ∀ {σ : vMem} {a0 : Nat} {x1 : Int32} {r : (Int32 × vMem) ⊕ (Nat × vMem)}, t_X10_thing σ a0 x1 = some r → vOx l yX10_thing (ws_ yX10_thing cX10_thing 3 (some .int)) d1 [.ref a0, .int x1] σ (xI r)) (σ : vMem) (a0 : Nat) (x1 : Int32) : V (P_X10_thing l d n0 s0) xI σ 0 [some (.ref a0), some (.int x1), none] [] (f_X10_thing_b t_X10_held t_X10_sum t_X10_product t_X10_thing σ a0 x1) := by
  have hC : vPx (P_X10_thing l d n0 s0) cX10_thing 3 "NobodyBeenAft$Rule" (some .int) d := vMX_cx
  refine V_eq (f_X10_thing_b.eq_1 ..) ?_
  refine V_aload_n hC dX10_thing_0 rfl ?_
  refine V_bipush (v := 45) hC dX10_thing_1 rfl ?_
  refine V_cko (fun hm => V_callU_I (C := "NobodyBeenAft$Rule") (owner := "NobodyBeenAft$Words") (c := 10) (As := [.int 45]) (rest := []) (d' := 1) hC dX10_thing_3 1 (lw_app (List.forall_mem_cons.mpr ⟨q600, List.forall_mem_cons.mpr ⟨q601, List.forall_mem_cons.mpr ⟨q603, List.forall_mem_cons.mpr ⟨q455, List.forall_mem_cons.mpr ⟨q89, fun _ h => absurd h List.not_mem_nil⟩⟩⟩⟩⟩) (lw_meth q460)) rfl (by decide +kernel) (List.mem_singleton.mp hm) (by decide) (by decide) rfl rfl rfl (Nat.le_of_ble_eq_true rfl) (Nat.le_trans (by decide) hd) (by decide) vMX_l (fun _ h => c_X5_passes (Nat.le_refl _) h) (fun r σ_1 => ?_))
  refine V_if_eq (tgt := 16) hC dX10_thing_6 (by decide) ?_ ?_
  · refine V_aload_n hC dX10_thing_16 rfl ?_
    refine V_cko (fun hm => V_callU_PI (C := "NobodyBeenAft$Rule") (owner := "NobodyBeenAft$Words") (c := 10) (As := []) (rest := []) (d' := 0) hC dX10_thing_17 0 (lw_app (List.forall_mem_cons.mpr ⟨q604, List.forall_mem_cons.mpr ⟨q605, List.forall_mem_cons.mpr ⟨q607, List.forall_mem_cons.mpr ⟨q375, List.forall_mem_cons.mpr ⟨q89, fun _ h => absurd h List.not_mem_nil⟩⟩⟩⟩⟩) (lw_meth q380)) rfl (by decide +kernel) (List.mem_singleton.mp hm) (by decide) (by decide) rfl rfl rfl (Nat.le_of_ble_eq_true rfl) (Nat.le_trans (by decide) hd) (by decide) vMX_l (fun _ h => c_X5_here (Nat.le_refl _) h) (fun r_1 => ?_))
    refine V_bipush (v := 40) hC dX10_thing_20 rfl ?_
    refine V_icmp_ne (tgt := 69) hC dX10_thing_22 (by decide) ?_ ?_
    · refine V_aload_n hC dX10_thing_69 rfl ?_
      refine V_cko (fun hm => V_callU_PI (C := "NobodyBeenAft$Rule") (owner := "NobodyBeenAft$Words") (c := 10) (As := []) (rest := []) (d' := 0) hC dX10_thing_70 0 (lw_app (List.forall_mem_cons.mpr ⟨q604, List.forall_mem_cons.mpr ⟨q605, List.forall_mem_cons.mpr ⟨q607, List.forall_mem_cons.mpr ⟨q375, List.forall_mem_cons.mpr ⟨q89, fun _ h => absurd h List.not_mem_nil⟩⟩⟩⟩⟩) (lw_meth q380)) rfl (by decide +kernel) (List.mem_singleton.mp hm) (by decide) (by decide) rfl rfl rfl (Nat.le_of_ble_eq_true rfl) (Nat.le_trans (by decide) hd) (by decide) vMX_l (fun _ h => c_X5_here (Nat.le_refl _) h) (fun r_2 => ?_))
      refine V_i2l hC dX10_thing_73 ?_
      refine V_ldc2 hC dX10_thing_74 q612 ?_
      refine V_ldc2 hC dX10_thing_77 q613 ?_
      refine V_callSN_PI (As := [.long (Int32.toInt64 r_2), .long 48, .long 57]) (rest := []) (d' := 0) hC dX10_thing_80 3 q287 q85 q614 q286 (by decide +kernel) rfl rfl (Nat.le_of_ble_eq_true rfl) (Nat.le_trans (by decide) hd) (by decide) vMX_l (fun _ h => c_X1_in (Nat.le_refl _) h) (fun r_3 => ?_)
      refine V_if_eq (tgt := 92) hC dX10_thing_83 (by decide) ?_ ?_
      · refine V_aload_n hC dX10_thing_92 rfl ?_
        refine V_cko (fun hm => V_callU_PI (C := "NobodyBeenAft$Rule") (owner := "NobodyBeenAft$Words") (c := 10) (As := []) (rest := []) (d' := 0) hC dX10_thing_93 0 (lw_app (List.forall_mem_cons.mpr ⟨q604, List.forall_mem_cons.mpr ⟨q605, List.forall_mem_cons.mpr ⟨q607, List.forall_mem_cons.mpr ⟨q375, List.forall_mem_cons.mpr ⟨q89, fun _ h => absurd h List.not_mem_nil⟩⟩⟩⟩⟩) (lw_meth q380)) rfl (by decide +kernel) (List.mem_singleton.mp hm) (by decide) (by decide) rfl rfl rfl (Nat.le_of_ble_eq_true rfl) (Nat.le_trans (by decide) hd) (by decide) vMX_l (fun _ h => c_X5_here (Nat.le_refl _) h) (fun r_4 => ?_))
        refine V_istore_n (ls' := [some (.ref a0), some (.int x1), some (.int r_4)]) hC dX10_thing_96 (by decide) rfl rfl ?_
        refine V_aload_n hC dX10_thing_97 rfl ?_
        refine V_iload_n hC dX10_thing_98 rfl ?_
        refine V_bipush (v := 108) hC dX10_thing_99 rfl ?_
        refine V_let (B := fun k => ∀ (y : Int32), V (P_X10_thing l d n0 s0) xI σ_1 127 [some (.ref a0), none, some (.int r_4)] [.int y, .ref a0] (k y)) ?_ ?_
        · intro y
          refine V_cko (fun hm => V_xcallU_V (C := "NobodyBeenAft$Rule") (owner := "NobodyBeenAft$Words") (c := 10) (As := [.int y]) (rest := []) (d' := 4) hC dX10_thing_127 1 (lw_app (List.forall_mem_cons.mpr ⟨q608, List.forall_mem_cons.mpr ⟨q609, List.forall_mem_cons.mpr ⟨q611, List.forall_mem_cons.mpr ⟨q383, List.forall_mem_cons.mpr ⟨q89, fun _ h => absurd h List.not_mem_nil⟩⟩⟩⟩⟩) (lw_meth q388)) rfl (by decide +kernel) (List.mem_singleton.mp hm) (by decide) (by decide) rfl rfl rfl (Nat.le_of_ble_eq_true rfl) (Nat.le_trans (by decide) hd) (by decide) vMX_l (fun _ h => c_X5_need (Nat.le_refl _) h0 h) (fun σ_2 => ?_) (fun b σ_3 => ?_))
          · refine V_aload_n hC dX10_thing_130 rfl ?_
            refine V_dup hC dX10_thing_131 rfl ?_
            refine g_X10_31 hC dX10_thing_132 ?_
            refine V_iconst (v := 1) hC dX10_thing_135 rfl ?_
            refine V_iadd hC dX10_thing_136 ?_
            refine p_X10_31 hC dX10_thing_137 (fun σ_4 => ?_)
            refine V_aload_n hC dX10_thing_140 rfl ?_
            refine g_X10_23 hC dX10_thing_141 ?_
            refine V_if_eq (tgt := 155) hC dX10_thing_144 (by decide) ?_ ?_
            · refine V_iconst (v := 0) hC dX10_thing_155 rfl ?_
              exact V_xireturn dX10_thing_156 rfl
            · refine V_aload_n hC dX10_thing_147 rfl ?_
              refine V_iload_n hC dX10_thing_148 rfl ?_
              refine V_cko (fun hm => V_callV_PI (c := 10) (As := [.int r_4]) (rest := []) (d' := 1) hC dX10_thing_149 1 (lw_V q619 q621 qs6 q102 q622) (by decide +kernel) (List.mem_singleton.mp hm) (by decide) (by decide) rfl rfl rfl (Nat.le_of_ble_eq_true rfl) (Nat.le_trans (by decide) hd) (by decide) vMX_l (fun _ h => c_X10_value (Nat.le_refl _) h) (fun r_5 => ?_))
              refine V_goto (tgt := 156) hC dX10_thing_152 (by decide) ?_
              exact V_xireturn dX10_thing_156 rfl
          · exact VT_outS (by decide) rfl
        · intro k hk
          refine V_let (B := fun k_1 => V (P_X10_thing l d n0 s0) xI σ_1 122 [some (.ref a0), none, some (.int r_4)] [.ref a0] (k_1)) ?_ ?_
          · skip
            refine V_iconst (v := 1) hC dX10_thing_122 rfl ?_
            refine V_goto (tgt := 127) hC dX10_thing_123 (by decide) ?_
            exact hk 1
          · intro k_1 hk_1
            refine V_icmp_eq (tgt := 122) hC dX10_thing_101 (by decide) ?_ ?_
            · refine V_clr [1] (ls' := [some (.ref a0), none, some (.int r_4)]) rfl ?_
              exact hk_1
            · refine V_iload_n hC dX10_thing_104 rfl ?_
              refine V_bipush (v := 112) hC dX10_thing_105 rfl ?_
              refine V_icmp_eq (tgt := 122) hC dX10_thing_107 (by decide) ?_ ?_
              · refine V_clr [1] (ls' := [some (.ref a0), none, some (.int r_4)]) rfl ?_
                exact hk_1
              · refine V_iload_n hC dX10_thing_110 rfl ?_
                refine V_bipush (v := 120) hC dX10_thing_111 rfl ?_
                refine V_icmp_eq (tgt := 122) hC dX10_thing_113 (by decide) ?_ ?_
                · refine V_clr [1] (ls' := [some (.ref a0), none, some (.int r_4)]) rfl ?_
                  exact hk_1
                · refine V_iload_n hC dX10_thing_116 rfl ?_
                  refine V_bipush (v := 110) hC dX10_thing_117 rfl ?_
                  refine V_icmp_ne (tgt := 126) hC dX10_thing_119 (by decide) ?_ ?_
                  · refine V_iconst (v := 0) hC dX10_thing_126 rfl ?_
                    refine V_clr [1] (ls' := [some (.ref a0), none, some (.int r_4)]) rfl ?_
                    exact hk 0
                  · refine V_clr [1] (ls' := [some (.ref a0), none, some (.int r_4)]) rfl ?_
                    exact hk_1
      · refine V_aload_n hC dX10_thing_86 rfl ?_
        refine V_iconst (v := 3) hC dX10_thing_87 rfl ?_
        refine V_cko (fun hm => V_xcallU_I (C := "NobodyBeenAft$Rule") (owner := "NobodyBeenAft$Words") (c := 10) (As := [.int 3]) (rest := []) (d' := 6) hC dX10_thing_88 1 (lw_app (List.forall_mem_cons.mpr ⟨q615, List.forall_mem_cons.mpr ⟨q616, List.forall_mem_cons.mpr ⟨q618, List.forall_mem_cons.mpr ⟨q361, List.forall_mem_cons.mpr ⟨q89, fun _ h => absurd h List.not_mem_nil⟩⟩⟩⟩⟩) (lw_meth q366)) rfl (by decide +kernel) (List.mem_singleton.mp hm) (by decide) (by decide) rfl rfl rfl (Nat.le_of_ble_eq_true rfl) (Nat.le_trans (by decide) hd) (by decide) vMX_l (fun _ h => c_X5_number_2 (Nat.le_refl _) h0 h) (fun r_6 σ_5 => ?_) (fun b_1 σ_6 => ?_))
        · exact V_xireturn dX10_thing_91 rfl
        · exact VT_outS (by decide) rfl
    · refine V_aload_n hC dX10_thing_25 rfl ?_
      refine V_iload_n hC dX10_thing_26 rfl ?_
      refine V_iconst (v := 4) hC dX10_thing_27 rfl ?_
      refine V_let (B := fun k_2 => ∀ (y_1 : Int32), V (P_X10_thing l d n0 s0) xI σ_1 36 [some (.ref a0), some (.int x1), none] [.int y_1, .ref a0] (k_2 y_1)) ?_ ?_
      · intro y_1
        refine V_cko (fun hm => V_xcallU_V (C := "NobodyBeenAft$Rule") (owner := "NobodyBeenAft$Words") (c := 10) (As := [.int y_1]) (rest := []) (d' := 4) hC dX10_thing_36 1 (lw_app (List.forall_mem_cons.mpr ⟨q608, List.forall_mem_cons.mpr ⟨q609, List.forall_mem_cons.mpr ⟨q611, List.forall_mem_cons.mpr ⟨q383, List.forall_mem_cons.mpr ⟨q89, fun _ h => absurd h List.not_mem_nil⟩⟩⟩⟩⟩) (lw_meth q388)) rfl (by decide +kernel) (List.mem_singleton.mp hm) (by decide) (by decide) rfl rfl rfl (Nat.le_of_ble_eq_true rfl) (Nat.le_trans (by decide) hd) (by decide) vMX_l (fun _ h => c_X5_need (Nat.le_refl _) h0 h) (fun σ_7 => ?_) (fun b_2 σ_8 => ?_))
        · refine V_aload_n hC dX10_thing_39 rfl ?_
          refine V_dup hC dX10_thing_40 rfl ?_
          refine g_X10_31 hC dX10_thing_41 ?_
          refine V_iconst (v := 1) hC dX10_thing_44 rfl ?_
          refine V_iadd hC dX10_thing_45 ?_
          refine p_X10_31 hC dX10_thing_46 (fun σ_9 => ?_)
          refine V_aload_n hC dX10_thing_49 rfl ?_
          refine V_iload_n hC dX10_thing_50 rfl ?_
          refine V_iconst (v := 1) hC dX10_thing_51 rfl ?_
          refine V_iadd hC dX10_thing_52 ?_
          refine V_cko (fun hm => V_xcallV_I (c := 10) (As := [.int (x1 + 1)]) (rest := []) (d' := d1) hC dX10_thing_53 1 (lw_V q584 q586 qs2 q102 q587) (by decide +kernel) (List.mem_singleton.mp hm) (by decide) (by decide) rfl rfl rfl (Nat.le_of_ble_eq_true rfl) hd1 (by decide) vMX_l (fun _ h => h_X10_held h) (fun r_7 σ_10 => ?_) (fun b_3 σ_11 => ?_))
          · refine V_istore_n (ls' := [some (.ref a0), some (.int x1), some (.int r_7)]) hC dX10_thing_56 (by decide) rfl rfl ?_
            refine V_aload_n hC dX10_thing_57 rfl ?_
            refine V_aload_n hC dX10_thing_58 rfl ?_
            refine V_bipush (v := 41) hC dX10_thing_59 rfl ?_
            refine V_cko (fun hm => V_callU_I (C := "NobodyBeenAft$Rule") (owner := "NobodyBeenAft$Words") (c := 10) (As := [.int 41]) (rest := [.ref a0]) (d' := 1) hC dX10_thing_61 1 (lw_app (List.forall_mem_cons.mpr ⟨q600, List.forall_mem_cons.mpr ⟨q601, List.forall_mem_cons.mpr ⟨q603, List.forall_mem_cons.mpr ⟨q455, List.forall_mem_cons.mpr ⟨q89, fun _ h => absurd h List.not_mem_nil⟩⟩⟩⟩⟩) (lw_meth q460)) rfl (by decide +kernel) (List.mem_singleton.mp hm) (by decide) (by decide) rfl rfl rfl (Nat.le_of_ble_eq_true rfl) (Nat.le_trans (by decide) hd) (by decide) vMX_l (fun _ h => c_X5_passes (Nat.le_refl _) h) (fun r_8 σ_12 => ?_))
            refine V_cko (fun hm => V_xcallU_V (C := "NobodyBeenAft$Rule") (owner := "NobodyBeenAft$Words") (c := 10) (As := [.int r_8]) (rest := []) (d' := 4) hC dX10_thing_64 1 (lw_app (List.forall_mem_cons.mpr ⟨q608, List.forall_mem_cons.mpr ⟨q609, List.forall_mem_cons.mpr ⟨q611, List.forall_mem_cons.mpr ⟨q383, List.forall_mem_cons.mpr ⟨q89, fun _ h => absurd h List.not_mem_nil⟩⟩⟩⟩⟩) (lw_meth q388)) rfl (by decide +kernel) (List.mem_singleton.mp hm) (by decide) (by decide) rfl rfl rfl (Nat.le_of_ble_eq_true rfl) (Nat.le_trans (by decide) hd) (by decide) vMX_l (fun _ h => c_X5_need (Nat.le_refl _) h0 h) (fun σ_13 => ?_) (fun b_4 σ_14 => ?_))
            · refine V_iload_n hC dX10_thing_67 rfl ?_
              exact V_xireturn dX10_thing_68 rfl
            · exact VT_outS (by decide) rfl
          · exact VT_outS (by decide) rfl
        · exact VT_outS (by decide) rfl
      · intro k_2 hk_2
        refine V_icmp_ge (tgt := 35) hC dX10_thing_28 (by decide) ?_ ?_
        · refine V_iconst (v := 0) hC dX10_thing_35 rfl ?_
          exact hk_2 0
        · refine V_iconst (v := 1) hC dX10_thing_31 rfl ?_
          refine V_goto (tgt := 36) hC dX10_thing_32 (by decide) ?_
          exact hk_2 1
  · refine V_aload_n hC dX10_thing_9 rfl ?_
    refine V_iload_n hC dX10_thing_10 rfl ?_
    refine V_cko (fun hm => V_xcallV_I (c := 10) (As := [.int x1]) (rest := []) (d' := d1) hC dX10_thing_11 1 (lw_V q596 q598 qs5 q102 q599) (by decide +kernel) (List.mem_singleton.mp hm) (by decide) (by decide) rfl rfl rfl (Nat.le_of_ble_eq_true rfl) hd1 (by decide) vMX_l (fun _ h => h_X10_thing h) (fun r_9 σ_15 => ?_) (fun b_5 σ_16 => ?_))
    · refine V_ineg hC dX10_thing_14 ?_
      exact V_xireturn dX10_thing_15 rfl
    · exact VT_outS (by decide) rfl
theorem c_X10_thing_b {l : Launch} {d : Nat} (hd : 7 ≤ d) (h0 : l.stackTraces = false) (t_X10_held : vMem → Nat → Int32 → Option ((Int32 × vMem) ⊕ (Nat × vMem))) (t_X10_sum : vMem → Nat → Int32 → Option ((Int32 × vMem) ⊕ (Nat × vMem))) (t_X10_product : vMem → Nat → Int32 → Option ((Int32 × vMem) ⊕ (Nat × vMem))) (t_X10_thing : vMem → Nat → Int32 → Option ((Int32 × vMem) ⊕ (Nat × vMem))) {d1 : Nat} (hd1 : d1 + 1 ≤ d) (h_X10_held : ∀ {σ : vMem} {a0 : Nat} {x1 : Int32} {r : (Int32 × vMem) ⊕ (Nat × vMem)}, t_X10_held σ a0 x1 = some r → vOx l yX10_held (ws_ yX10_held cX10_held 3 (some .int)) d1 [.ref a0, .int x1] σ (xI r)) (h_X10_sum : ∀ {σ : vMem} {a0 : Nat} {x1 : Int32} {r : (Int32 × vMem) ⊕ (Nat × vMem)}, t_X10_sum σ a0 x1 = some r → vOx l yX10_sum (ws_ yX10_sum cX10_sum 5 (some .int)) d1 [.ref a0, .int x1] σ (xI r)) (h_X10_product : ∀ {σ : vMem} {a0 : Nat} {x1 : Int32} {r : (Int32 × vMem) ⊕ (Nat × vMem)}, t_X10_product σ a0 x1 = some r → vOx l yX10_product (ws_ yX10_product cX10_product 5 (some .int)) d1 [.ref a0, .int x1] σ (xI r)) (h_X10_thing : ∀ {σ : vMem} {a0 : Nat} {x1 : Int32} {r : (Int32 × vMem) ⊕ (Nat × vMem)}, t_X10_thing σ a0 x1 = some r → vOx l yX10_thing (ws_ yX10_thing cX10_thing 3 (some .int)) d1 [.ref a0, .int x1] σ (xI r)) {σ : vMem} {a0 : Nat} {x1 : Int32} {r : (Int32 × vMem) ⊕ (Nat × vMem)} (h : f_X10_thing_b t_X10_held t_X10_sum t_X10_product t_X10_thing σ a0 x1 = some r) : vOx l yX10_thing (ws_ yX10_thing cX10_thing 3 (some .int)) d [.ref a0, .int x1] σ (xI r) := V_xmethod (em := xI) [some (.ref a0), some (.int x1), none] (by decide +kernel) rfl (Nat.le_of_ble_eq_true rfl) (w_X10_thing hd h0 t_X10_held t_X10_sum t_X10_product t_X10_thing hd1 h_X10_held h_X10_sum h_X10_product h_X10_thing σ a0 x1) h
def f_X10_reads : Nat → vMem → ((Nat × Int32) ⊕ (Nat × Int32) ⊕ (Nat × Int32) ⊕ (Nat × Int32)) → Option ((Int32 × vMem) ⊕ (Nat × vMem))
  | 0, _, _ => none
  | n + 1, σ, (.inl (a0, x1)) => f_X10_held_b (fun σ a0 x1 => f_X10_reads n σ (.inl (a0, x1))) (fun σ a0 x1 => f_X10_reads n σ (.inr (.inl (a0, x1)))) (fun σ a0 x1 => f_X10_reads n σ (.inr (.inr (.inl (a0, x1))))) (fun σ a0 x1 => f_X10_reads n σ (.inr (.inr (.inr (a0, x1))))) σ a0 x1
  | n + 1, σ, (.inr (.inl (a0, x1))) => f_X10_sum_b (fun σ a0 x1 => f_X10_reads n σ (.inl (a0, x1))) (fun σ a0 x1 => f_X10_reads n σ (.inr (.inl (a0, x1)))) (fun σ a0 x1 => f_X10_reads n σ (.inr (.inr (.inl (a0, x1))))) (fun σ a0 x1 => f_X10_reads n σ (.inr (.inr (.inr (a0, x1))))) σ a0 x1
  | n + 1, σ, (.inr (.inr (.inl (a0, x1)))) => f_X10_product_b (fun σ a0 x1 => f_X10_reads n σ (.inl (a0, x1))) (fun σ a0 x1 => f_X10_reads n σ (.inr (.inl (a0, x1)))) (fun σ a0 x1 => f_X10_reads n σ (.inr (.inr (.inl (a0, x1))))) (fun σ a0 x1 => f_X10_reads n σ (.inr (.inr (.inr (a0, x1))))) σ a0 x1
  | n + 1, σ, (.inr (.inr (.inr (a0, x1)))) => f_X10_thing_b (fun σ a0 x1 => f_X10_reads n σ (.inl (a0, x1))) (fun σ a0 x1 => f_X10_reads n σ (.inr (.inl (a0, x1)))) (fun σ a0 x1 => f_X10_reads n σ (.inr (.inr (.inl (a0, x1))))) (fun σ a0 x1 => f_X10_reads n σ (.inr (.inr (.inr (a0, x1))))) σ a0 x1
def f_X10_held (n : Nat) (σ : vMem) (a0 : Nat) (x1 : Int32) : Option ((Int32 × vMem) ⊕ (Nat × vMem)) := f_X10_reads n σ (.inl (a0, x1))
def f_X10_sum (n : Nat) (σ : vMem) (a0 : Nat) (x1 : Int32) : Option ((Int32 × vMem) ⊕ (Nat × vMem)) := f_X10_reads n σ (.inr (.inl (a0, x1)))
def f_X10_product (n : Nat) (σ : vMem) (a0 : Nat) (x1 : Int32) : Option ((Int32 × vMem) ⊕ (Nat × vMem)) := f_X10_reads n σ (.inr (.inr (.inl (a0, x1))))
def f_X10_thing (n : Nat) (σ : vMem) (a0 : Nat) (x1 : Int32) : Option ((Int32 × vMem) ⊕ (Nat × vMem)) := f_X10_reads n σ (.inr (.inr (.inr (a0, x1))))
theorem cg_X10_reads {l : Launch} (h0 : l.stackTraces = false) : ∀ (n : Nat) {d : Nat}, 7 + n ≤ d → (∀ {σ : vMem} {a0 : Nat} {x1 : Int32} {r : (Int32 × vMem) ⊕ (Nat × vMem)}, f_X10_held n σ a0 x1 = some r → vOx l yX10_held (ws_ yX10_held cX10_held 3 (some .int)) d [.ref a0, .int x1] σ (xI r)) ∧ (∀ {σ : vMem} {a0 : Nat} {x1 : Int32} {r : (Int32 × vMem) ⊕ (Nat × vMem)}, f_X10_sum n σ a0 x1 = some r → vOx l yX10_sum (ws_ yX10_sum cX10_sum 5 (some .int)) d [.ref a0, .int x1] σ (xI r)) ∧ (∀ {σ : vMem} {a0 : Nat} {x1 : Int32} {r : (Int32 × vMem) ⊕ (Nat × vMem)}, f_X10_product n σ a0 x1 = some r → vOx l yX10_product (ws_ yX10_product cX10_product 5 (some .int)) d [.ref a0, .int x1] σ (xI r)) ∧ (∀ {σ : vMem} {a0 : Nat} {x1 : Int32} {r : (Int32 × vMem) ⊕ (Nat × vMem)}, f_X10_thing n σ a0 x1 = some r → vOx l yX10_thing (ws_ yX10_thing cX10_thing 3 (some .int)) d [.ref a0, .int x1] σ (xI r)) := by
  intro n
  induction n with
  | zero => intro d hd; exact ⟨(fun h => by cases h), (fun h => by cases h), (fun h => by cases h), (fun h => by cases h)⟩
  | succ n ih =>
    intro d hd
    have ih9 := ih (Nat.le_refl (7 + n))
    exact ⟨fun h => c_X10_held_b (d1 := 7 + n) (by omega) h0 _ _ _ _ (by omega) (fun h => ih9.1 h) (fun h => ih9.2.1 h) (fun h => ih9.2.2.1 h) (fun h => ih9.2.2.2 h) h, fun h => c_X10_sum_b (d1 := 7 + n) (by omega) h0 _ _ _ _ (by omega) (fun h => ih9.1 h) (fun h => ih9.2.1 h) (fun h => ih9.2.2.1 h) (fun h => ih9.2.2.2 h) h, fun h => c_X10_product_b (d1 := 7 + n) (by omega) h0 _ _ _ _ (by omega) (fun h => ih9.1 h) (fun h => ih9.2.1 h) (fun h => ih9.2.2.1 h) (fun h => ih9.2.2.2 h) h, fun h => c_X10_thing_b (d1 := 7 + n) (by omega) h0 _ _ _ _ (by omega) (fun h => ih9.1 h) (fun h => ih9.2.1 h) (fun h => ih9.2.2.1 h) (fun h => ih9.2.2.2 h) h⟩
theorem c_X10_held {l : Launch} {n d : Nat} (hd : 7 + n ≤ d) (h0 : l.stackTraces = false) {σ : vMem} {a0 : Nat} {x1 : Int32} {r : (Int32 × vMem) ⊕ (Nat × vMem)} (h : f_X10_held n σ a0 x1 = some r) : vOx l yX10_held (ws_ yX10_held cX10_held 3 (some .int)) d [.ref a0, .int x1] σ (xI r) := (cg_X10_reads h0 n hd).1 h
theorem c_X10_sum {l : Launch} {n d : Nat} (hd : 7 + n ≤ d) (h0 : l.stackTraces = false) {σ : vMem} {a0 : Nat} {x1 : Int32} {r : (Int32 × vMem) ⊕ (Nat × vMem)} (h : f_X10_sum n σ a0 x1 = some r) : vOx l yX10_sum (ws_ yX10_sum cX10_sum 5 (some .int)) d [.ref a0, .int x1] σ (xI r) := (cg_X10_reads h0 n hd).2.1 h
theorem c_X10_product {l : Launch} {n d : Nat} (hd : 7 + n ≤ d) (h0 : l.stackTraces = false) {σ : vMem} {a0 : Nat} {x1 : Int32} {r : (Int32 × vMem) ⊕ (Nat × vMem)} (h : f_X10_product n σ a0 x1 = some r) : vOx l yX10_product (ws_ yX10_product cX10_product 5 (some .int)) d [.ref a0, .int x1] σ (xI r) := (cg_X10_reads h0 n hd).2.2.1 h
theorem c_X10_thing {l : Launch} {n d : Nat} (hd : 7 + n ≤ d) (h0 : l.stackTraces = false) {σ : vMem} {a0 : Nat} {x1 : Int32} {r : (Int32 × vMem) ⊕ (Nat × vMem)} (h : f_X10_thing n σ a0 x1 = some r) : vOx l yX10_thing (ws_ yX10_thing cX10_thing 3 (some .int)) d [.ref a0, .int x1] σ (xI r) := (cg_X10_reads h0 n hd).2.2.2 h
/-! NobodyBeenAft$Rule.read()LNobodyBeenAft$Rule; -/
def f_X10_read (σ : vMem) (a0 : Nat) : Option ((Nat × vMem) ⊕ (Nat × vMem)) := cko σ a0 [10] (bx (f_X10_held 600 σ a0 0) (fun r σ_1 => cko σ_1 a0 [10] (bxv (f_X5_needEnd σ_1 a0) (fun σ_3 => some (.inl (a0, σ_3))) (fun b_1 σ_4 => cko σ_4 b_1 [6, 17, 18] (some (.inr (b_1, σ_4)))))) (fun b σ_2 => cko σ_2 b [6, 17, 18] (some (.inr (b, σ_2)))))
abbrev P_X10_read (l : Launch) (d n0 s0 : Nat) : vX → Prop := vMX l yX10_read cX10_read 1 (some (.object "NobodyBeenAft$Rule")) [] d n0 s0
theorem w_X10_read {l : Launch} {d n0 s0 : Nat} (hd : 608 ≤ d) (h0 : l.stackTraces = false) (σ : vMem) (a0 : Nat) : V (P_X10_read l d n0 s0) xA σ 0 [some (.ref a0)] [] (f_X10_read σ a0) := by
  have hC : vPx (P_X10_read l d n0 s0) cX10_read 1 "NobodyBeenAft$Rule" (some (.object "NobodyBeenAft$Rule")) d := vMX_cx
  refine V_eq (f_X10_read.eq_1 ..) ?_
  refine V_aload_n hC dX10_read_0 rfl ?_
  refine V_iconst (v := 0) hC dX10_read_1 rfl ?_
  refine V_cko (fun hm => V_xcallV_I (c := 10) (As := [.int 0]) (rest := []) (d' := 607) hC dX10_read_2 1 (lw_V q584 q586 qs2 q102 q587) (by decide +kernel) (List.mem_singleton.mp hm) (by decide) (by decide) rfl rfl rfl (Nat.le_of_ble_eq_true rfl) (Nat.le_trans (by decide) hd) (by decide) vMX_l (fun _ h => c_X10_held (n := 600) (Nat.le_of_ble_eq_true rfl) h0 h) (fun r σ_1 => ?_) (fun b σ_2 => ?_))
  · refine V_pop hC dX10_read_5 rfl ?_
    refine V_aload_n hC dX10_read_6 rfl ?_
    refine V_cko (fun hm => V_xcallU_V (C := "NobodyBeenAft$Rule") (owner := "NobodyBeenAft$Words") (c := 10) (As := []) (rest := []) (d' := 5) hC dX10_read_7 0 (lw_app (List.forall_mem_cons.mpr ⟨q629, List.forall_mem_cons.mpr ⟨q630, List.forall_mem_cons.mpr ⟨q632, List.forall_mem_cons.mpr ⟨q462, List.forall_mem_cons.mpr ⟨q89, fun _ h => absurd h List.not_mem_nil⟩⟩⟩⟩⟩) (lw_meth q467)) rfl (by decide +kernel) (List.mem_singleton.mp hm) (by decide) (by decide) rfl rfl rfl (Nat.le_of_ble_eq_true rfl) (Nat.le_trans (by decide) hd) (by decide) vMX_l (fun _ h => c_X5_needEnd (Nat.le_refl _) h0 h) (fun σ_3 => ?_) (fun b_1 σ_4 => ?_))
    · refine V_aload_n hC dX10_read_10 rfl ?_
      exact V_xareturnA (Or.inl ⟨_, rfl⟩) dX10_read_11 rfl
    · exact VT_outS (by decide) rfl
  · exact VT_outS (by decide) rfl
theorem c_X10_read {l : Launch} {d : Nat} (hd : 608 ≤ d) (h0 : l.stackTraces = false) {σ : vMem} {a0 : Nat} {r : (Nat × vMem) ⊕ (Nat × vMem)} (h : f_X10_read σ a0 = some r) : vOx l yX10_read (ws_ yX10_read cX10_read 1 (some (.object "NobodyBeenAft$Rule"))) d [.ref a0] σ (xA r) := V_xmethod (em := xA) [some (.ref a0)] (by decide +kernel) rfl (Nat.le_of_ble_eq_true rfl) (w_X10_read hd h0 σ a0) h
/-! NobodyBeenAft.rule()I -/
def f_X1_rule (σ : vMem) (a0 : Nat) : Option (Int32 × vMem) := cko σ a0 [1] (dr (gr σ a0 15) (fun b => nwc σ b 102 (fun b_1 σ_1 => cko σ_1 b_1 [102] (cko σ_1 a0 [1] (vl (gi σ_1 a0 16) (fun v2 => cko σ_1 a0 [1] (vl (si σ_1 a0 16 0) (fun σ_2 => if ¬ v2 = 0 then (nw σ_2 10 7 (fun b_2 σ_3 => bv (f_X10_init σ_3 b_2 a0 b_1 v2) (fun σ_4 => cko σ_4 b_2 [10] (bx (f_X10_read σ_4 b_2) (fun b_3 σ_5 => cko σ_5 a0 [1] (vl (sr σ_5 a0 19 (some b_3)) (fun σ_7 => some (0, σ_7)))) (fun b_4 σ_6 => cko σ_6 b_4 [6] (cko σ_6 b_4 [6] (some (((-1) - (gi σ_6 b_4 0)), σ_6)))))))) else cko σ_2 a0 [1] (vl (sr σ_2 a0 19 none) (fun σ_8 => some (0, σ_8)))))))))))
abbrev P_X1_rule (l : Launch) (d n0 s0 : Nat) : vX → Prop := vMX l yX1_rule cX1_rule 4 (some .int) [(32, 50, 51, 113)] d n0 s0
theorem w_X1_rule {l : Launch} {d n0 s0 : Nat} (hd : 609 ≤ d) (h0 : l.stackTraces = false) (σ : vMem) (a0 : Nat) : V (P_X1_rule l d n0 s0) nxI σ 0 [some (.ref a0), none, none, none] [] (f_X1_rule σ a0) := by
  have hC : vPx (P_X1_rule l d n0 s0) cX1_rule 4 "NobodyBeenAft" (some .int) d := vMX_cx
  refine V_eq (f_X1_rule.eq_1 ..) ?_
  refine V_aload_n hC dX1_rule_0 rfl ?_
  refine g_X1_52 hC dX1_rule_1 (fun b => ?_)
  refine V_clone hC dX1_rule_4 q553 q554 q555 q556 q557 q558 (Nat.le_of_ble_eq_true rfl) (fun b_1 σ_1 => ?_)
  refine V_castA (k := 102) (t0 := 1) hC dX1_rule_7 q559 (by decide) (fun _ => rfl) (fun _ h => by cases h) (by decide +kernel) ?_
  refine V_astore_n (ls' := [some (.ref a0), some (.ref b_1), none, none]) hC dX1_rule_10 (by decide) rfl rfl ?_
  refine V_aload_n hC dX1_rule_11 rfl ?_
  refine g_X1_96 hC dX1_rule_12 ?_
  refine V_istore_nL (ls' := fun v2 => [some (.ref a0), some (.ref b_1), some (.int v2), none]) hC dX1_rule_15 (by decide) rfl (fun _ => rfl) (fun v2 => ?_)
  refine V_aload_n hC dX1_rule_16 rfl ?_
  refine V_iconst (v := 0) hC dX1_rule_17 rfl ?_
  refine p_X1_96 hC dX1_rule_18 (fun σ_2 => ?_)
  refine V_iload_n hC dX1_rule_21 rfl ?_
  refine V_if_ne (tgt := 32) hC dX1_rule_22 (by decide) ?_ ?_
  · refine V_aload_n hC dX1_rule_32 rfl ?_
    refine V_new (c := 10) hC dX1_rule_33 q560 q561 q102 rfl (by decide) in_X10 tyX10 tyX10_ok (by decide +kernel) (fun b_2 σ_3 => ?_)
    refine V_dup hC dX1_rule_36 rfl ?_
    refine V_aload_n hC dX1_rule_37 rfl ?_
    refine V_aload_n hC dX1_rule_38 rfl ?_
    refine V_iload_n hC dX1_rule_39 rfl ?_
    refine V_callI_V (As := [.ref a0, .ref b_1, .int v2]) (rest := [.ref b_2, .ref a0]) (d' := 1) hC dX1_rule_40 3 q564 q102 q562 q563 rfl rfl (by decide +kernel) rfl rfl (Nat.le_of_ble_eq_true rfl) (Nat.le_trans (by decide) hd) (by decide) vMX_l (fun _ h => c_X10_init (Nat.le_refl _) h) (fun σ_4 => ?_)
    refine V_cko (fun hm => V_xcallV_A (c := 10) (As := []) (rest := [.ref a0]) (d' := 608) hC dX1_rule_43 0 (lw_V q580 q581 q582 q102 q583) (by decide +kernel) (List.mem_singleton.mp hm) (by decide) (by decide) rfl rfl rfl (Nat.le_of_ble_eq_true rfl) (Nat.le_trans (by decide) hd) (by decide) vMX_l (fun _ h => c_X10_read (Nat.le_refl _) h0 h) (fun b_3 σ_5 => ?_) (fun b_4 σ_6 => ?_))
    · refine p_X1_175 hC dX1_rule_46 (fun σ_7 => ?_)
      refine V_iconst (v := 0) hC dX1_rule_49 rfl ?_
      exact V_xireturn dX1_rule_50 rfl
    · refine VT_catch hC (by decide) (by decide) (by decide) (by decide) rfl q292 q391 ?_
      refine V_astore_n (ls' := [some (.ref a0), some (.ref b_1), some (.int v2), some (.ref b_4)]) hC dX1_rule_51 (by decide) rfl rfl ?_
      refine V_iconst (v := (-1)) hC dX1_rule_52 rfl ?_
      refine V_aload_n hC dX1_rule_53 rfl ?_
      refine g_X1_115 hC dX1_rule_54 ?_
      refine V_isub hC dX1_rule_57 ?_
      exact V_xireturn dX1_rule_58 rfl
  · refine V_aload_n hC dX1_rule_25 rfl ?_
    refine V_null hC dX1_rule_26 ?_
    refine pn_X1_175 hC dX1_rule_27 (fun σ_8 => ?_)
    refine V_iconst (v := 0) hC dX1_rule_30 rfl ?_
    exact V_xireturn dX1_rule_31 rfl
theorem c_X1_rule {l : Launch} {d : Nat} (hd : 609 ≤ d) (h0 : l.stackTraces = false) {σ : vMem} {a0 : Nat} {r : Int32 × vMem} (h : f_X1_rule σ a0 = some r) : vOx l yX1_rule (wsW_ yX1_rule cX1_rule 4 (some .int) [(32, 50, 51, 113)]) d [.ref a0] σ (nxI r) := V_wmethod (em := nxI) (hh := [(32, 50, 51, 113)]) [some (.ref a0), none, none, none] (by decide +kernel) rfl (Nat.le_of_ble_eq_true rfl) (w_X1_rule hd h0 σ a0) h
/-! NobodyBeenAft.rowOf(IIII)Ljava/lang/Object; -/
def f_X1_rowOf_94 (x1 : Int32) (x3 : Int32) (b : Nat) : Nat → vMem → Int32 → Int32 → Option ((Nat × vMem) ⊕ (Nat × vMem))
  | 0, _, _, _ => none
  | n + 1, σ_3, v4, v6 => if x1 ≤ v6 then (some (.inl (b, σ_3))) else cka σ_3 b 105 v6 (vl (si σ_3 b (Int32.toNatClampNeg v6) v4) (fun σ_4 => vl (v6 + 1) (fun v6_1 => vl (v4 + x3) (fun v4_1 => f_X1_rowOf_94 x1 x3 b n σ_4 v4_1 v6_1))))
def f_X1_rowOf_57 (x1 : Int32) (x3 : Int32) (b_2 : Nat) : Nat → vMem → Int32 → Int32 → Option ((Nat × vMem) ⊕ (Nat × vMem))
  | 0, _, _, _ => none
  | n_1 + 1, σ_7, v4_2, v6_2 => if x1 ≤ v6_2 then (some (.inl (b_2, σ_7))) else cka σ_7 b_2 104 v6_2 (vl (si σ_7 b_2 (Int32.toNatClampNeg v6_2) (vp_nar .short ((Int32.toInt16 v4_2).toInt32))) (fun σ_8 => vl (v6_2 + 1) (fun v6_3 => vl (v4_2 + x3) (fun v4_3 => f_X1_rowOf_57 x1 x3 b_2 n_1 σ_8 v4_3 v6_3))))
def f_X1_rowOf_15 (x1 : Int32) (x3 : Int32) (b_4 : Nat) : Nat → vMem → Int32 → Int32 → Option ((Nat × vMem) ⊕ (Nat × vMem))
  | 0, _, _, _ => none
  | n_2 + 1, σ_11, v4_4, v6_4 => if x1 ≤ v6_4 then (some (.inl (b_4, σ_11))) else cka σ_11 b_4 102 v6_4 (vl (si σ_11 b_4 (Int32.toNatClampNeg v6_4) (vp_nar .byte ((Int32.toInt8 v4_4).toInt32))) (fun σ_12 => vl (v6_4 + 1) (fun v6_5 => vl (v4_4 + x3) (fun v4_5 => f_X1_rowOf_15 x1 x3 b_4 n_2 σ_12 v4_5 v6_5))))
def f_X1_rowOf (σ : vMem) (x0 : Int32) (x1 : Int32) (x2 : Int32) (x3 : Int32) : Option ((Nat × vMem) ⊕ (Nat × vMem)) := if ¬ x0 = 0 then (if ¬ x0 = 1 then (nwx σ 105 x1 (fun b σ_1 => f_X1_rowOf_94 x1 x3 b FU σ_1 x2 0) (fun b_1 σ_2 => cko σ_2 b_1 [6, 17, 18] (some (.inr (b_1, σ_2))))) else nwx σ 104 x1 (fun b_2 σ_5 => f_X1_rowOf_57 x1 x3 b_2 FU σ_5 x2 0) (fun b_3 σ_6 => cko σ_6 b_3 [6, 17, 18] (some (.inr (b_3, σ_6))))) else nwx σ 102 x1 (fun b_4 σ_9 => f_X1_rowOf_15 x1 x3 b_4 FU σ_9 x2 0) (fun b_5 σ_10 => cko σ_10 b_5 [6, 17, 18] (some (.inr (b_5, σ_10))))
abbrev P_X1_rowOf (l : Launch) (d n0 s0 : Nat) : vX → Prop := vMX l yX1_rowOf cX1_rowOf 7 (some (.object "java/lang/Object")) [] d n0 s0
theorem w_X1_rowOf_94 {l : Launch} {d n0 s0 : Nat} (hd : 162 ≤ d) (h0 : l.stackTraces = false) (x1 : Int32) (x3 : Int32) (b : Nat)  : ∀ (n : Nat) (σ_3 : vMem) (v4 : Int32) (v6 : Int32), V (P_X1_rowOf l d n0 s0) xA σ_3 94 [none, some (.int x1), none, some (.int x3), some (.int v4), some (.ref b), some (.int v6)] [] (f_X1_rowOf_94 x1 x3 b n σ_3 v4 v6) := by
  have hC : vPx (P_X1_rowOf l d n0 s0) cX1_rowOf 7 "NobodyBeenAft" (some (.object "java/lang/Object")) d := vMX_cx
  intro n
  induction n with
  | zero =>
    intro σ_3 v4 v6
    exact V_none
  | succ n ih =>
    intro σ_3 v4 v6
    refine V_eq (f_X1_rowOf_94.eq_2 ..) ?_
    refine V_iload hC dX1_rowOf_94 rfl ?_
    refine V_iload_n hC dX1_rowOf_96 rfl ?_
    refine V_icmp_ge (tgt := 119) hC dX1_rowOf_97 (by decide) ?_ ?_
    · refine V_aload hC dX1_rowOf_119 rfl ?_
      exact V_xareturnA (Or.inl ⟨_, rfl⟩) dX1_rowOf_121 rfl
    · refine V_aload hC dX1_rowOf_100 rfl ?_
      refine V_iload hC dX1_rowOf_102 rfl ?_
      refine V_iload hC dX1_rowOf_104 rfl ?_
      refine V_iast hC dX1_rowOf_106 (fun σ_4 => ?_)
      refine V_iincL (v := v6 + 1) (ls' := fun v6_1 => [none, some (.int x1), none, some (.int x3), some (.int v4), some (.ref b), some (.int v6_1)]) hC dX1_rowOf_107 rfl (by decide) rfl rfl (fun _ => rfl) (fun v6_1 => ?_)
      refine V_iload hC dX1_rowOf_110 rfl ?_
      refine V_iload_n hC dX1_rowOf_112 rfl ?_
      refine V_iadd hC dX1_rowOf_113 ?_
      refine V_istoreL (ls' := fun v4_1 => [none, some (.int x1), none, some (.int x3), some (.int v4_1), some (.ref b), some (.int v6_1)]) hC dX1_rowOf_114 (by decide) rfl (fun _ => rfl) (fun v4_1 => ?_)
      refine V_goto (tgt := 94) hC dX1_rowOf_116 (by decide) ?_
      exact ih σ_4 v4_1 v6_1
theorem w_X1_rowOf_57 {l : Launch} {d n0 s0 : Nat} (hd : 162 ≤ d) (h0 : l.stackTraces = false) (x1 : Int32) (x3 : Int32) (b_2 : Nat)  : ∀ (n_1 : Nat) (σ_7 : vMem) (v4_2 : Int32) (v6_2 : Int32), V (P_X1_rowOf l d n0 s0) xA σ_7 57 [none, some (.int x1), none, some (.int x3), some (.int v4_2), some (.ref b_2), some (.int v6_2)] [] (f_X1_rowOf_57 x1 x3 b_2 n_1 σ_7 v4_2 v6_2) := by
  have hC : vPx (P_X1_rowOf l d n0 s0) cX1_rowOf 7 "NobodyBeenAft" (some (.object "java/lang/Object")) d := vMX_cx
  intro n_1
  induction n_1 with
  | zero =>
    intro σ_7 v4_2 v6_2
    exact V_none
  | succ n_1 ih =>
    intro σ_7 v4_2 v6_2
    refine V_eq (f_X1_rowOf_57.eq_2 ..) ?_
    refine V_iload hC dX1_rowOf_57 rfl ?_
    refine V_iload_n hC dX1_rowOf_59 rfl ?_
    refine V_icmp_ge (tgt := 83) hC dX1_rowOf_60 (by decide) ?_ ?_
    · refine V_aload hC dX1_rowOf_83 rfl ?_
      exact V_xareturnA (Or.inl ⟨_, rfl⟩) dX1_rowOf_85 rfl
    · refine V_aload hC dX1_rowOf_63 rfl ?_
      refine V_iload hC dX1_rowOf_65 rfl ?_
      refine V_iload hC dX1_rowOf_67 rfl ?_
      refine V_i2s hC dX1_rowOf_69 ?_
      refine V_sast hC dX1_rowOf_70 (fun σ_8 => ?_)
      refine V_iincL (v := v6_2 + 1) (ls' := fun v6_3 => [none, some (.int x1), none, some (.int x3), some (.int v4_2), some (.ref b_2), some (.int v6_3)]) hC dX1_rowOf_71 rfl (by decide) rfl rfl (fun _ => rfl) (fun v6_3 => ?_)
      refine V_iload hC dX1_rowOf_74 rfl ?_
      refine V_iload_n hC dX1_rowOf_76 rfl ?_
      refine V_iadd hC dX1_rowOf_77 ?_
      refine V_istoreL (ls' := fun v4_3 => [none, some (.int x1), none, some (.int x3), some (.int v4_3), some (.ref b_2), some (.int v6_3)]) hC dX1_rowOf_78 (by decide) rfl (fun _ => rfl) (fun v4_3 => ?_)
      refine V_goto (tgt := 57) hC dX1_rowOf_80 (by decide) ?_
      exact ih σ_8 v4_3 v6_3
theorem w_X1_rowOf_15 {l : Launch} {d n0 s0 : Nat} (hd : 162 ≤ d) (h0 : l.stackTraces = false) (x1 : Int32) (x3 : Int32) (b_4 : Nat)  : ∀ (n_2 : Nat) (σ_11 : vMem) (v4_4 : Int32) (v6_4 : Int32), V (P_X1_rowOf l d n0 s0) xA σ_11 15 [none, some (.int x1), none, some (.int x3), some (.int v4_4), some (.ref b_4), some (.int v6_4)] [] (f_X1_rowOf_15 x1 x3 b_4 n_2 σ_11 v4_4 v6_4) := by
  have hC : vPx (P_X1_rowOf l d n0 s0) cX1_rowOf 7 "NobodyBeenAft" (some (.object "java/lang/Object")) d := vMX_cx
  intro n_2
  induction n_2 with
  | zero =>
    intro σ_11 v4_4 v6_4
    exact V_none
  | succ n_2 ih =>
    intro σ_11 v4_4 v6_4
    refine V_eq (f_X1_rowOf_15.eq_2 ..) ?_
    refine V_iload hC dX1_rowOf_15 rfl ?_
    refine V_iload_n hC dX1_rowOf_17 rfl ?_
    refine V_icmp_ge (tgt := 41) hC dX1_rowOf_18 (by decide) ?_ ?_
    · refine V_aload hC dX1_rowOf_41 rfl ?_
      exact V_xareturnA (Or.inl ⟨_, rfl⟩) dX1_rowOf_43 rfl
    · refine V_aload hC dX1_rowOf_21 rfl ?_
      refine V_iload hC dX1_rowOf_23 rfl ?_
      refine V_iload hC dX1_rowOf_25 rfl ?_
      refine V_i2b hC dX1_rowOf_27 ?_
      refine V_bast hC dX1_rowOf_28 (fun σ_12 => ?_)
      refine V_iincL (v := v6_4 + 1) (ls' := fun v6_5 => [none, some (.int x1), none, some (.int x3), some (.int v4_4), some (.ref b_4), some (.int v6_5)]) hC dX1_rowOf_29 rfl (by decide) rfl rfl (fun _ => rfl) (fun v6_5 => ?_)
      refine V_iload hC dX1_rowOf_32 rfl ?_
      refine V_iload_n hC dX1_rowOf_34 rfl ?_
      refine V_iadd hC dX1_rowOf_35 ?_
      refine V_istoreL (ls' := fun v4_5 => [none, some (.int x1), none, some (.int x3), some (.int v4_5), some (.ref b_4), some (.int v6_5)]) hC dX1_rowOf_36 (by decide) rfl (fun _ => rfl) (fun v4_5 => ?_)
      refine V_goto (tgt := 15) hC dX1_rowOf_38 (by decide) ?_
      exact ih σ_12 v4_5 v6_5
theorem w_X1_rowOf {l : Launch} {d n0 s0 : Nat} (hd : 162 ≤ d) (h0 : l.stackTraces = false) (σ : vMem) (x0 : Int32) (x1 : Int32) (x2 : Int32) (x3 : Int32) : V (P_X1_rowOf l d n0 s0) xA σ 0 [some (.int x0), some (.int x1), some (.int x2), some (.int x3), none, none, none] [] (f_X1_rowOf σ x0 x1 x2 x3) := by
  have hC : vPx (P_X1_rowOf l d n0 s0) cX1_rowOf 7 "NobodyBeenAft" (some (.object "java/lang/Object")) d := vMX_cx
  refine V_eq (f_X1_rowOf.eq_1 ..) ?_
  refine V_iload_n hC dX1_rowOf_0 rfl ?_
  refine V_istore (ls' := [some (.int x0), some (.int x1), some (.int x2), some (.int x3), some (.int x2), none, none]) hC dX1_rowOf_1 (by decide) rfl rfl ?_
  refine V_iload_n hC dX1_rowOf_3 rfl ?_
  refine V_if_ne (tgt := 44) hC dX1_rowOf_4 (by decide) ?_ ?_
  · refine V_iload_n hC dX1_rowOf_44 rfl ?_
    refine V_iconst (v := 1) hC dX1_rowOf_45 rfl ?_
    refine V_icmp_ne (tgt := 86) hC dX1_rowOf_46 (by decide) ?_ ?_
    · refine V_iload_n hC dX1_rowOf_86 rfl ?_
      refine V_newx hC (Nat.le_trans (by decide) hd) (fun X hX => (congrArg Launch.stackTraces (vMX_l X hX)).trans h0) (by decide) dX1_rowOf_87 (V_newa_int hC dX1_rowOf_87 q172) (fun b σ_1 => ?_) (fun b_1 σ_2 => ?_)
      · refine V_astore (ls' := [some (.int x0), some (.int x1), some (.int x2), some (.int x3), some (.int x2), some (.ref b), none]) hC dX1_rowOf_89 (by decide) rfl rfl ?_
        refine V_iconst (v := 0) hC dX1_rowOf_91 rfl ?_
        refine V_istore (ls' := [some (.int x0), some (.int x1), some (.int x2), some (.int x3), some (.int x2), some (.ref b), some (.int 0)]) hC dX1_rowOf_92 (by decide) rfl rfl ?_
        refine V_clr [0, 2] (ls' := [none, some (.int x1), none, some (.int x3), some (.int x2), some (.ref b), some (.int 0)]) rfl ?_
        exact (w_X1_rowOf_94 hd h0 x1 x3 b) FU σ_1 x2 0
      · exact VT_outS (by decide) rfl
    · refine V_iload_n hC dX1_rowOf_49 rfl ?_
      refine V_newx hC (Nat.le_trans (by decide) hd) (fun X hX => (congrArg Launch.stackTraces (vMX_l X hX)).trans h0) (by decide) dX1_rowOf_50 (V_newa_short hC dX1_rowOf_50 q679) (fun b_2 σ_5 => ?_) (fun b_3 σ_6 => ?_)
      · refine V_astore (ls' := [some (.int x0), some (.int x1), some (.int x2), some (.int x3), some (.int x2), some (.ref b_2), none]) hC dX1_rowOf_52 (by decide) rfl rfl ?_
        refine V_iconst (v := 0) hC dX1_rowOf_54 rfl ?_
        refine V_istore (ls' := [some (.int x0), some (.int x1), some (.int x2), some (.int x3), some (.int x2), some (.ref b_2), some (.int 0)]) hC dX1_rowOf_55 (by decide) rfl rfl ?_
        refine V_clr [0, 2] (ls' := [none, some (.int x1), none, some (.int x3), some (.int x2), some (.ref b_2), some (.int 0)]) rfl ?_
        exact (w_X1_rowOf_57 hd h0 x1 x3 b_2) FU σ_5 x2 0
      · exact VT_outS (by decide) rfl
  · refine V_iload_n hC dX1_rowOf_7 rfl ?_
    refine V_newx hC (Nat.le_trans (by decide) hd) (fun X hX => (congrArg Launch.stackTraces (vMX_l X hX)).trans h0) (by decide) dX1_rowOf_8 (V_newa_byte hC dX1_rowOf_8 q274) (fun b_4 σ_9 => ?_) (fun b_5 σ_10 => ?_)
    · refine V_astore (ls' := [some (.int x0), some (.int x1), some (.int x2), some (.int x3), some (.int x2), some (.ref b_4), none]) hC dX1_rowOf_10 (by decide) rfl rfl ?_
      refine V_iconst (v := 0) hC dX1_rowOf_12 rfl ?_
      refine V_istore (ls' := [some (.int x0), some (.int x1), some (.int x2), some (.int x3), some (.int x2), some (.ref b_4), some (.int 0)]) hC dX1_rowOf_13 (by decide) rfl rfl ?_
      refine V_clr [0, 2] (ls' := [none, some (.int x1), none, some (.int x3), some (.int x2), some (.ref b_4), some (.int 0)]) rfl ?_
      exact (w_X1_rowOf_15 hd h0 x1 x3 b_4) FU σ_9 x2 0
    · exact VT_outS (by decide) rfl
theorem c_X1_rowOf {l : Launch} {d : Nat} (hd : 162 ≤ d) (h0 : l.stackTraces = false) {σ : vMem} {x0 : Int32} {x1 : Int32} {x2 : Int32} {x3 : Int32} {r : (Nat × vMem) ⊕ (Nat × vMem)} (h : f_X1_rowOf σ x0 x1 x2 x3 = some r) : vOx l yX1_rowOf (ws_ yX1_rowOf cX1_rowOf 7 (some (.object "java/lang/Object"))) d [.int x0, .int x1, .int x2, .int x3] σ (xA r) := V_xmethod (em := xA) [some (.int x0), some (.int x1), some (.int x2), some (.int x3), none, none, none] (by decide +kernel) rfl (Nat.le_of_ble_eq_true rfl) (w_X1_rowOf hd h0 σ x0 x1 x2 x3) h
/-! NobodyBeenAft.entry(Ljava/lang/Object;I)I -/
def f_X1_entry (σ : vMem) (a0 : Nat) (x1 : Int32) : Option (Int32) := cko σ a0 [102, 104, 105] (if (if knd σ a0 = 102 then 1 else 0 : Int32) = 0 then (cko σ a0 [104, 105] (if (if knd σ a0 = 104 then 1 else 0 : Int32) = 0 then (cko σ a0 [105] (cka σ a0 105 x1 (some (gi σ a0 (Int32.toNatClampNeg x1))))) else cko σ a0 [104] (cka σ a0 104 x1 (some (gi σ a0 (Int32.toNatClampNeg x1)))))) else cko σ a0 [102] (cka σ a0 102 x1 (some (gi σ a0 (Int32.toNatClampNeg x1)))))
abbrev P_X1_entry (l : Launch) (d n0 s0 : Nat) : vX → Prop := vMP l yX1_entry cX1_entry 2 (some .int) d n0 s0
theorem w_X1_entry {l : Launch} {d n0 s0 : Nat} (hd : 0 ≤ d) (σ : vMem) (a0 : Nat) (x1 : Int32) : V (P_X1_entry l d n0 s0) (vEmb (ePI σ)) σ 0 [some (.ref a0), some (.int x1)] [] (f_X1_entry σ a0 x1) := by
  have hC : vPx (P_X1_entry l d n0 s0) cX1_entry 2 "NobodyBeenAft" (some .int) d := vMP_cx
  refine V_eq (f_X1_entry.eq_1 ..) ?_
  refine V_aload_n hC dX1_entry_0 rfl ?_
  refine V_instB hC dX1_entry_1 q559 ?_
  refine V_if_eq (tgt := 14) hC dX1_entry_4 (by decide) ?_ ?_
  · refine V_aload_n hC dX1_entry_14 rfl ?_
    refine V_instS hC dX1_entry_15 q673 ?_
    refine V_if_eq (tgt := 30) hC dX1_entry_18 (by decide) ?_ ?_
    · refine V_aload_n hC dX1_entry_30 rfl ?_
      refine V_castA (k := 105) (t0 := 4) hC dX1_entry_31 q674 (by decide) (fun _ => rfl) (fun _ h => by cases h) (by decide +kernel) ?_
      refine V_iload_n hC dX1_entry_34 rfl ?_
      refine V_iald hC dX1_entry_35 ?_
      exact V_ireturn dX1_entry_36 rfl rfl
    · refine V_aload_n hC dX1_entry_21 rfl ?_
      refine V_castA (k := 104) (t0 := 3) hC dX1_entry_22 q673 (by decide) (fun _ => rfl) (fun _ h => by cases h) (by decide +kernel) ?_
      refine V_iload_n hC dX1_entry_25 rfl ?_
      refine V_sald hC dX1_entry_26 ?_
      refine V_goto (tgt := 36) hC dX1_entry_27 (by decide) ?_
      exact V_ireturn dX1_entry_36 rfl rfl
  · refine V_aload_n hC dX1_entry_7 rfl ?_
    refine V_castA (k := 102) (t0 := 1) hC dX1_entry_8 q559 (by decide) (fun _ => rfl) (fun _ h => by cases h) (by decide +kernel) ?_
    refine V_iload_n hC dX1_entry_11 rfl ?_
    refine V_bald hC dX1_entry_12 ?_
    exact V_ireturn dX1_entry_13 rfl rfl
theorem c_X1_entry {l : Launch} {d : Nat} (hd : 0 ≤ d) {σ : vMem} {a0 : Nat} {x1 : Int32} {r : Int32} (h : f_X1_entry σ a0 x1 = some r) : vOk l yX1_entry cX1_entry 2 (some .int) d [.ref a0, .int x1] σ (.inl (((ePI σ)).1 r, ((ePI σ)).2 r)) := V_method (em := (ePI σ)) [some (.ref a0), some (.int x1)] (by decide +kernel) rfl (Nat.le_of_ble_eq_true rfl) (w_X1_entry hd σ a0 x1) h
/-! NobodyBeenAft.sheet(IIII)I -/
def f_X1_sheet_52 (a0 : Nat) (x2 : Int32) (a5 : Option Nat) (k_1 : vMem → Int32 → Option (Int32 × vMem)) : Nat → vMem → Int32 → Int32 → Option (Int32 × vMem)
  | 0, _, _, _ => none
  | n + 1, σ_3, v6_1, v7 => cko σ_3 a0 [1] (if (gi σ_3 a0 12) ≤ v7 then (k_1 σ_3 v6_1) else cko σ_3 a0 [1] (dr (gr σ_3 a0 7) (fun b_1 => vl (fun (y : Int32) => cka σ_3 b_1 105 v7 (vl (si σ_3 b_1 (Int32.toNatClampNeg v7) y) (fun σ_4 => cko σ_4 a0 [1] (dr (gr σ_4 a0 7) (fun b_2 => cka σ_4 b_2 105 v7 (vl (v6_1 + (gi σ_4 b_2 (Int32.toNatClampNeg v7))) (fun v6_2 => vl (v7 + 1) (fun v7_1 => f_X1_sheet_52 a0 x2 a5 k_1 n σ_4 v6_2 v7_1)))))))) (fun k_2 => vl (k_2 0) (fun k_3 => onr a5 (k_3) (fun b_3 => if v7 < x2 then (dr a5 (fun b_4 => bp (f_X1_entry σ_3 b_4 v7) (fun r_1 => k_2 (imax 0 (imin 9 r_1))))) else k_3))))))
def f_X1_sheet (σ : vMem) (a0 : Nat) (x1 : Int32) (x2 : Int32) (x3 : Int32) (x4 : Int32) : Option (Int32 × vMem) := bp (f_X1_in σ (Int32.toInt64 x1) 0 3) (fun r => if r = 0 then (some ((-1), σ)) else if x2 ≤ 8 then (vl (fun (σ_1 : vMem) (a5 : Option Nat) => vl (fun (σ_2 : vMem) (v6 : Int32) => onr a5 (some ((-3), σ_2)) (fun b => some (v6, σ_2))) (fun k_1 => f_X1_sheet_52 a0 x2 a5 k_1 FU σ_1 0 0)) (fun k => if 3 ≤ x1 then (k σ none) else bx (f_X1_rowOf σ x1 x2 x3 x4) (fun b_5 σ_5 => k σ_5 (some b_5)) (fun b_6 σ_6 => cko σ_6 b_6 [18] (some ((-2), σ_6))))) else some ((-1), σ))
abbrev P_X1_sheet (l : Launch) (d n0 s0 : Nat) : vX → Prop := vMX l yX1_sheet cX1_sheet 8 (some .int) [(28, 38, 41, 229)] d n0 s0
theorem w_X1_sheet_52 {l : Launch} {d n0 s0 : Nat} (hd : 163 ≤ d) (h0 : l.stackTraces = false) (a0 : Nat) (x2 : Int32) (a5 : Option Nat) (k_1 : vMem → Int32 → Option (Int32 × vMem)) (hk_1 : ∀ (σ_2 : vMem), ∀ (v6 : Int32), V (P_X1_sheet l d n0 s0) nxI σ_2 117 [none, none, none, none, none, some (va_rf a5), some (.int v6), none] [] (k_1 σ_2 v6)) : ∀ (n : Nat) (σ_3 : vMem) (v6_1 : Int32) (v7 : Int32), V (P_X1_sheet l d n0 s0) nxI σ_3 52 [some (.ref a0), none, some (.int x2), none, none, some (va_rf a5), some (.int v6_1), some (.int v7)] [] (f_X1_sheet_52 a0 x2 a5 k_1 n σ_3 v6_1 v7) := by
  have hC : vPx (P_X1_sheet l d n0 s0) cX1_sheet 8 "NobodyBeenAft" (some .int) d := vMX_cx
  intro n
  induction n with
  | zero =>
    intro σ_3 v6_1 v7
    exact V_none
  | succ n ih =>
    intro σ_3 v6_1 v7
    refine V_eq (f_X1_sheet_52.eq_2 ..) ?_
    refine V_iload hC dX1_sheet_52 rfl ?_
    refine V_aload_n hC dX1_sheet_54 rfl ?_
    refine g_X1_87 hC dX1_sheet_55 ?_
    refine V_icmp_ge (tgt := 117) hC dX1_sheet_58 (by decide) ?_ ?_
    · refine V_clr [0, 2, 7] (ls' := [none, none, none, none, none, some (va_rf a5), some (.int v6_1), none]) rfl ?_
      exact hk_1 σ_3 v6_1
    · refine V_aload_n hC dX1_sheet_61 rfl ?_
      refine g_X1_45 hC dX1_sheet_62 (fun b_1 => ?_)
      refine V_iload hC dX1_sheet_65 rfl ?_
      refine V_let (B := fun k_2 => ∀ (y : Int32), V (P_X1_sheet l d n0 s0) nxI σ_3 98 [some (.ref a0), none, some (.int x2), none, none, some (va_rf a5), some (.int v6_1), some (.int v7)] [.int y, .int v7, .ref b_1] (k_2 y)) ?_ ?_
      · intro y
        refine V_iast hC dX1_sheet_98 (fun σ_4 => ?_)
        refine V_iload hC dX1_sheet_99 rfl ?_
        refine V_aload_n hC dX1_sheet_101 rfl ?_
        refine g_X1_45 hC dX1_sheet_102 (fun b_2 => ?_)
        refine V_iload hC dX1_sheet_105 rfl ?_
        refine V_iald hC dX1_sheet_107 ?_
        refine V_iadd hC dX1_sheet_108 ?_
        refine V_istoreL (ls' := fun v6_2 => [some (.ref a0), none, some (.int x2), none, none, some (va_rf a5), some (.int v6_2), some (.int v7)]) hC dX1_sheet_109 (by decide) (by cases a5 <;> rfl) (fun _ => rfl) (fun v6_2 => ?_)
        refine V_iincL (v := v7 + 1) (ls' := fun v7_1 => [some (.ref a0), none, some (.int x2), none, none, some (va_rf a5), some (.int v6_2), some (.int v7_1)]) hC dX1_sheet_111 rfl (by decide) rfl rfl (fun _ => rfl) (fun v7_1 => ?_)
        refine V_goto (tgt := 52) hC dX1_sheet_114 (by decide) ?_
        exact ih σ_4 v6_2 v7_1
      · intro k_2 hk_2
        refine V_let (B := fun k_3 => V (P_X1_sheet l d n0 s0) nxI σ_3 78 [some (.ref a0), none, some (.int x2), none, none, some (va_rf a5), some (.int v6_1), some (.int v7)] [.int v7, .ref b_1] (k_3)) ?_ ?_
        · skip
          refine V_iconst (v := 0) hC dX1_sheet_78 rfl ?_
          refine V_goto (tgt := 98) hC dX1_sheet_79 (by decide) ?_
          exact hk_2 0
        · intro k_3 hk_3
          refine V_aloadq hC dX1_sheet_67 rfl ?_
          refine V_onr ?_ (fun b_3 => ?_)
          · refine V_ifnullN (tgt := 78) hC dX1_sheet_69 (by decide) ?_
            exact hk_3
          · refine V_ifnull hC dX1_sheet_69 ?_
            refine V_iload hC dX1_sheet_72 rfl ?_
            refine V_iload_n hC dX1_sheet_74 rfl ?_
            refine V_icmp_lt (tgt := 82) hC dX1_sheet_75 (by decide) ?_ ?_
            · refine V_iconst (v := 0) hC dX1_sheet_82 rfl ?_
              refine V_bipush (v := 9) hC dX1_sheet_83 rfl ?_
              refine V_aloadq hC dX1_sheet_85 rfl ?_
              refine V_dr (fun b_4 => ?_)
              refine V_iload hC dX1_sheet_87 rfl ?_
              refine V_callS_PI (As := [.ref b_4, .int v7]) (rest := [.int 9, .int 0, .int v7, .ref b_1]) (d' := 0) hC dX1_sheet_89 2 (lw_S q670 q671 q85 q672) (by decide +kernel) rfl rfl (Nat.le_of_ble_eq_true rfl) (Nat.le_trans (by decide) hd) (by decide) vMX_l (fun _ h => c_X1_entry (Nat.le_refl _) h) (fun r_1 => ?_)
              refine V_mmin hC dX1_sheet_92 q675 q327 q90 q328 (Nat.le_of_ble_eq_true rfl) ?_
              refine V_mmax hC dX1_sheet_95 q676 q677 q90 q678 (Nat.le_of_ble_eq_true rfl) ?_
              exact hk_2 (imax 0 (imin 9 r_1))
            · exact hk_3
theorem w_X1_sheet {l : Launch} {d n0 s0 : Nat} (hd : 163 ≤ d) (h0 : l.stackTraces = false) (σ : vMem) (a0 : Nat) (x1 : Int32) (x2 : Int32) (x3 : Int32) (x4 : Int32) : V (P_X1_sheet l d n0 s0) nxI σ 0 [some (.ref a0), some (.int x1), some (.int x2), some (.int x3), some (.int x4), none, none, none] [] (f_X1_sheet σ a0 x1 x2 x3 x4) := by
  have hC : vPx (P_X1_sheet l d n0 s0) cX1_sheet 8 "NobodyBeenAft" (some .int) d := vMX_cx
  refine V_eq (f_X1_sheet.eq_1 ..) ?_
  refine V_iload_n hC dX1_sheet_0 rfl ?_
  refine V_i2l hC dX1_sheet_1 ?_
  refine V_lconst (v := 0) hC dX1_sheet_2 rfl ?_
  refine V_ldc2 hC dX1_sheet_3 q666 ?_
  refine V_callS_PI (As := [.long (Int32.toInt64 x1), .long 0, .long 3]) (rest := []) (d' := 0) hC dX1_sheet_6 3 (lw_S q285 q286 q85 q287) (by decide +kernel) rfl rfl (Nat.le_of_ble_eq_true rfl) (Nat.le_trans (by decide) hd) (by decide) vMX_l (fun _ h => c_X1_in (Nat.le_refl _) h) (fun r => ?_)
  refine V_if_eq (tgt := 18) hC dX1_sheet_9 (by decide) ?_ ?_
  · refine V_iconst (v := (-1)) hC dX1_sheet_18 rfl ?_
    exact V_xireturn dX1_sheet_19 rfl
  · refine V_iload_n hC dX1_sheet_12 rfl ?_
    refine V_bipush (v := 8) hC dX1_sheet_13 rfl ?_
    refine V_icmp_le (tgt := 20) hC dX1_sheet_15 (by decide) ?_ ?_
    · refine V_null hC dX1_sheet_20 ?_
      refine V_astoreN (ls' := [some (.ref a0), some (.int x1), some (.int x2), some (.int x3), some (.int x4), some (.null), none, none]) hC dX1_sheet_21 (by decide) rfl rfl ?_
      refine V_iload_n hC dX1_sheet_23 rfl ?_
      refine V_iconst (v := 3) hC dX1_sheet_24 rfl ?_
      refine V_let (B := fun k => ∀ (σ_1 : vMem), ∀ (a5 : Option Nat), V (P_X1_sheet l d n0 s0) nxI σ_1 46 [some (.ref a0), none, some (.int x2), none, none, some (va_rf a5), none, none] [] (k σ_1 a5)) ?_ ?_
      · intro σ_1 a5
        refine V_iconst (v := 0) hC dX1_sheet_46 rfl ?_
        refine V_istore (ls' := [some (.ref a0), none, some (.int x2), none, none, some (va_rf a5), some (.int 0), none]) hC dX1_sheet_47 (by decide) (by cases a5 <;> rfl) rfl ?_
        refine V_iconst (v := 0) hC dX1_sheet_49 rfl ?_
        refine V_istore (ls' := [some (.ref a0), none, some (.int x2), none, none, some (va_rf a5), some (.int 0), some (.int 0)]) hC dX1_sheet_50 (by decide) rfl rfl ?_
        refine V_let (B := fun k_1 => ∀ (σ_2 : vMem), ∀ (v6 : Int32), V (P_X1_sheet l d n0 s0) nxI σ_2 117 [none, none, none, none, none, some (va_rf a5), some (.int v6), none] [] (k_1 σ_2 v6)) ?_ ?_
        · intro σ_2 v6
          refine V_aloadq hC dX1_sheet_117 rfl ?_
          refine V_onr ?_ (fun b => ?_)
          · refine V_ifnonnullN hC dX1_sheet_119 ?_
            refine V_bipush (v := (-3)) hC dX1_sheet_122 rfl ?_
            refine V_goto (tgt := 129) hC dX1_sheet_124 (by decide) ?_
            exact V_xireturn dX1_sheet_129 rfl
          · refine V_ifnonnull (tgt := 127) hC dX1_sheet_119 (by decide) ?_
            refine V_iload hC dX1_sheet_127 rfl ?_
            exact V_xireturn dX1_sheet_129 rfl
        · intro k_1 hk_1
          exact (w_X1_sheet_52 hd h0 a0 x2 a5 k_1 hk_1) FU σ_1 0 0
      · intro k hk
        refine V_icmp_ge (tgt := 46) hC dX1_sheet_25 (by decide) ?_ ?_
        · refine V_clr [1, 3, 4] (ls' := [some (.ref a0), none, some (.int x2), none, none, some (.null), none, none]) rfl ?_
          exact hk σ none
        · refine V_iload_n hC dX1_sheet_28 rfl ?_
          refine V_iload_n hC dX1_sheet_29 rfl ?_
          refine V_iload_n hC dX1_sheet_30 rfl ?_
          refine V_iload hC dX1_sheet_31 rfl ?_
          refine V_xcallS_A (As := [.int x1, .int x2, .int x3, .int x4]) (rest := []) (d' := 162) hC dX1_sheet_33 4 (lw_S q667 q668 q85 q669) (by decide +kernel) rfl rfl (Nat.le_of_ble_eq_true rfl) (Nat.le_trans (by decide) hd) (by decide) vMX_l (fun _ h => c_X1_rowOf (Nat.le_refl _) h0 h) (fun b_5 σ_5 => ?_) (fun b_6 σ_6 => ?_)
          · refine V_astore (ls' := [some (.ref a0), some (.int x1), some (.int x2), some (.int x3), some (.int x4), some (.ref b_5), none, none]) hC dX1_sheet_36 (by decide) rfl rfl ?_
            refine V_goto (tgt := 46) hC dX1_sheet_38 (by decide) ?_
            refine V_clr [1, 3, 4] (ls' := [some (.ref a0), none, some (.int x2), none, none, some (.ref b_5), none, none]) rfl ?_
            exact hk σ_5 (some b_5)
          · refine VT_catch hC (by decide) (by decide) (by decide) (by decide) rfl q637 q657 ?_
            refine V_astore (ls' := [some (.ref a0), some (.int x1), some (.int x2), some (.int x3), some (.int x4), some (.null), some (.ref b_6), none]) hC dX1_sheet_41 (by decide) rfl rfl ?_
            refine V_bipush (v := (-2)) hC dX1_sheet_43 rfl ?_
            exact V_xireturn dX1_sheet_45 rfl
    · refine V_iconst (v := (-1)) hC dX1_sheet_18 rfl ?_
      exact V_xireturn dX1_sheet_19 rfl
theorem c_X1_sheet {l : Launch} {d : Nat} (hd : 163 ≤ d) (h0 : l.stackTraces = false) {σ : vMem} {a0 : Nat} {x1 : Int32} {x2 : Int32} {x3 : Int32} {x4 : Int32} {r : Int32 × vMem} (h : f_X1_sheet σ a0 x1 x2 x3 x4 = some r) : vOx l yX1_sheet (wsW_ yX1_sheet cX1_sheet 8 (some .int) [(28, 38, 41, 229)]) d [.ref a0, .int x1, .int x2, .int x3, .int x4] σ (nxI r) := V_wmethod (em := nxI) (hh := [(28, 38, 41, 229)]) [some (.ref a0), some (.int x1), some (.int x2), some (.int x3), some (.int x4), none, none, none] (by decide +kernel) rfl (Nat.le_of_ble_eq_true rfl) (w_X1_sheet hd h0 σ a0 x1 x2 x3 x4) h
/-! NobodyBeenAft$Rule.of(I)I -/
def f_X10_of (σ : vMem) (a0 : Nat) (x1 : Int32) : Option (Int32 × vMem) := cko σ a0 [10] (vl (si σ a0 4 1) (fun σ_1 => cko σ_1 a0 [10] (vl (si σ_1 a0 5 x1) (fun σ_2 => cko σ_2 a0 [10] (vl (si σ_2 a0 3 0) (fun σ_3 => cko σ_3 a0 [10] (bx (f_X10_held 600 σ_3 a0 0) (fun r σ_4 => cko σ_4 a0 [10] (vl (si σ_4 a0 4 0) (fun σ_7 => some (r, σ_7)))) (fun b σ_5 => cko σ_5 b [6] (cko σ_5 a0 [10] (vl (si σ_5 a0 4 0) (fun σ_6 => some (0, σ_6))))))))))))
abbrev P_X10_of (l : Launch) (d n0 s0 : Nat) : vX → Prop := vMX l yX10_of cX10_of 5 (some .int) [(15, 21, 28, 34), (15, 21, 38, 0), (28, 31, 38, 0), (38, 40, 38, 0)] d n0 s0
theorem w_X10_of {l : Launch} {d n0 s0 : Nat} (hd : 608 ≤ d) (h0 : l.stackTraces = false) (σ : vMem) (a0 : Nat) (x1 : Int32) : V (P_X10_of l d n0 s0) nxI σ 0 [some (.ref a0), some (.int x1), none, none, none] [] (f_X10_of σ a0 x1) := by
  have hC : vPx (P_X10_of l d n0 s0) cX10_of 5 "NobodyBeenAft$Rule" (some .int) d := vMX_cx
  refine V_eq (f_X10_of.eq_1 ..) ?_
  refine V_aload_n hC dX10_of_0 rfl ?_
  refine V_iconst (v := 1) hC dX10_of_1 rfl ?_
  refine p_X10_23 hC dX10_of_2 rfl rfl (fun σ_1 => ?_)
  refine V_aload_n hC dX10_of_5 rfl ?_
  refine V_iload_n hC dX10_of_6 rfl ?_
  refine p_X10_27 hC dX10_of_7 (fun σ_2 => ?_)
  refine V_aload_n hC dX10_of_10 rfl ?_
  refine V_iconst (v := 0) hC dX10_of_11 rfl ?_
  refine p_X10_31 hC dX10_of_12 (fun σ_3 => ?_)
  refine V_aload_n hC dX10_of_15 rfl ?_
  refine V_iconst (v := 0) hC dX10_of_16 rfl ?_
  refine V_cko (fun hm => V_xcallV_I (c := 10) (As := [.int 0]) (rest := []) (d' := 607) hC dX10_of_17 1 (lw_V q584 q586 qs2 q102 q587) (by decide +kernel) (List.mem_singleton.mp hm) (by decide) (by decide) rfl rfl rfl (Nat.le_of_ble_eq_true rfl) (Nat.le_trans (by decide) hd) (by decide) vMX_l (fun _ h => c_X10_held (n := 600) (Nat.le_of_ble_eq_true rfl) h0 h) (fun r σ_4 => ?_) (fun b σ_5 => ?_))
  · refine V_istore_n (ls' := [some (.ref a0), some (.int x1), some (.int r), none, none]) hC dX10_of_20 (by decide) rfl rfl ?_
    refine V_aload_n hC dX10_of_21 rfl ?_
    refine V_iconst (v := 0) hC dX10_of_22 rfl ?_
    refine p_X10_23 hC dX10_of_23 rfl rfl (fun σ_7 => ?_)
    refine V_iload_n hC dX10_of_26 rfl ?_
    exact V_xireturn dX10_of_27 rfl
  · refine VT_catch hC (by decide) (by decide) (by decide) (by decide) rfl q692 q391 ?_
    refine V_astore_n (ls' := [some (.ref a0), some (.int x1), some (.ref b), none, none]) hC dX10_of_28 (by decide) rfl rfl ?_
    refine V_iconst (v := 0) hC dX10_of_29 rfl ?_
    refine V_istore_n (ls' := [some (.ref a0), some (.int x1), some (.ref b), some (.int 0), none]) hC dX10_of_30 (by decide) rfl rfl ?_
    refine V_aload_n hC dX10_of_31 rfl ?_
    refine V_iconst (v := 0) hC dX10_of_32 rfl ?_
    refine p_X10_23 hC dX10_of_33 rfl rfl (fun σ_6 => ?_)
    refine V_iload_n hC dX10_of_36 rfl ?_
    exact V_xireturn dX10_of_37 rfl
theorem c_X10_of {l : Launch} {d : Nat} (hd : 608 ≤ d) (h0 : l.stackTraces = false) {σ : vMem} {a0 : Nat} {x1 : Int32} {r : Int32 × vMem} (h : f_X10_of σ a0 x1 = some r) : vOx l yX10_of (wsW_ yX10_of cX10_of 5 (some .int) [(15, 21, 28, 34), (15, 21, 38, 0), (28, 31, 38, 0), (38, 40, 38, 0)]) d [.ref a0, .int x1] σ (nxI r) := V_wmethod (em := nxI) (hh := [(15, 21, 28, 34), (15, 21, 38, 0), (28, 31, 38, 0), (38, 40, 38, 0)]) [some (.ref a0), some (.int x1), none, none, none] (by decide +kernel) rfl (Nat.le_of_ble_eq_true rfl) (w_X10_of hd h0 σ a0 x1) h
/-! NobodyBeenAft.delayAt(I)I -/
def f_X1_delayAt (σ : vMem) (a0 : Nat) (x1 : Int32) : Option (Int32 × vMem) := vl (fun (σ_1 : vMem) (y : Int32) => some ((imax 1 (imin 12 y)), σ_1)) (fun k => cko σ a0 [1] (onr (gr σ a0 19) (cko σ a0 [1] (k σ (((gi σ a0 8) / 8) + 1))) (fun b => cko σ a0 [1] (dr (gr σ a0 19) (fun b_1 => cko σ b_1 [10] (bd (f_X10_of σ b_1 x1) (fun r σ_2 => k σ_2 r)))))))
abbrev P_X1_delayAt (l : Launch) (d n0 s0 : Nat) : vX → Prop := vMP l yX1_delayAt cX1_delayAt 3 (some .int) d n0 s0
theorem w_X1_delayAt {l : Launch} {d n0 s0 : Nat} (hd : 609 ≤ d) (h0 : l.stackTraces = false) (σ : vMem) (a0 : Nat) (x1 : Int32) : V (P_X1_delayAt l d n0 s0) (vEmb eI) σ 0 [some (.ref a0), some (.int x1), none] [] (f_X1_delayAt σ a0 x1) := by
  have hC : vPx (P_X1_delayAt l d n0 s0) cX1_delayAt 3 "NobodyBeenAft" (some .int) d := vMP_cx
  refine V_eq (f_X1_delayAt.eq_1 ..) ?_
  refine V_aload_n hC dX1_delayAt_0 rfl ?_
  refine V_let (B := fun k => ∀ (σ_1 : vMem), ∀ (y : Int32), V (P_X1_delayAt l d n0 s0) (vEmb eI) σ_1 27 [none, none, none] [.int y] (k σ_1 y)) ?_ ?_
  · intro σ_1 y
    refine V_istore_n (ls' := [none, none, some (.int y)]) hC dX1_delayAt_27 (by decide) rfl rfl ?_
    refine V_iconst (v := 1) hC dX1_delayAt_28 rfl ?_
    refine V_bipush (v := 12) hC dX1_delayAt_29 rfl ?_
    refine V_iload_n hC dX1_delayAt_31 rfl ?_
    refine V_mmin hC dX1_delayAt_32 q675 q327 q90 q328 (Nat.le_of_ble_eq_true rfl) ?_
    refine V_mmax hC dX1_delayAt_35 q676 q677 q90 q678 (Nat.le_of_ble_eq_true rfl) ?_
    exact V_ireturn dX1_delayAt_38 rfl rfl
  · intro k hk
    refine go_X1_175 hC dX1_delayAt_1 ?_ (fun b => ?_)
    · refine V_ifnonnullN hC dX1_delayAt_4 ?_
      refine V_aload_n hC dX1_delayAt_7 rfl ?_
      refine g_X1_48 hC dX1_delayAt_8 ?_
      refine V_bipush (v := 8) hC dX1_delayAt_11 rfl ?_
      refine V_idiv hC dX1_delayAt_13 (by decide) ?_
      refine V_iconst (v := 1) hC dX1_delayAt_14 rfl ?_
      refine V_iadd hC dX1_delayAt_15 ?_
      refine V_goto (tgt := 27) hC dX1_delayAt_16 (by decide) ?_
      refine V_clr [0, 1] (ls' := [none, none, none]) rfl ?_
      exact hk σ (((gi σ a0 8) / 8) + 1)
    · refine V_ifnonnull (tgt := 19) hC dX1_delayAt_4 (by decide) ?_
      refine V_aload_n hC dX1_delayAt_19 rfl ?_
      refine g_X1_175 hC dX1_delayAt_20 (fun b_1 => ?_)
      refine V_iload_n hC dX1_delayAt_23 rfl ?_
      refine V_cko (fun hm => V_wcallV_I (c := 10) (As := [.int x1]) (rest := []) (d' := 608) hC dX1_delayAt_24 1 (lw_VW q688 q689 q690 q102 q691) (by decide +kernel) (List.mem_singleton.mp hm) (by decide) (by decide) rfl rfl rfl (Nat.le_of_ble_eq_true rfl) (Nat.le_trans (by decide) hd) (by decide) vMP_l (fun _ h => c_X10_of (Nat.le_refl _) h0 h) (fun r σ_2 => ?_))
      refine V_clr [0, 1] (ls' := [none, none, none]) rfl ?_
      exact hk σ_2 r
theorem c_X1_delayAt {l : Launch} {d : Nat} (hd : 609 ≤ d) (h0 : l.stackTraces = false) {σ : vMem} {a0 : Nat} {x1 : Int32} {r : Int32 × vMem} (h : f_X1_delayAt σ a0 x1 = some r) : vOk l yX1_delayAt cX1_delayAt 3 (some .int) d [.ref a0, .int x1] σ (.inl ((eI).1 r, (eI).2 r)) := V_method (em := eI) [some (.ref a0), some (.int x1), none] (by decide +kernel) rfl (Nat.le_of_ble_eq_true rfl) (w_X1_delayAt hd h0 σ a0 x1) h
/-! NobodyBeenAft.delay()I -/
def f_X1_delay (σ : vMem) (a0 : Nat) : Option (Int32 × vMem) := cko σ a0 [1] (dr (gr σ a0 0) (fun b => cko σ b [2] (cko σ a0 [1] (bd (f_X1_delayAt σ a0 (gi σ b 4)) (fun r σ_1 => some (r, σ_1))))))
abbrev P_X1_delay (l : Launch) (d n0 s0 : Nat) : vX → Prop := vMP l yX1_delay cX1_delay 1 (some .int) d n0 s0
theorem w_X1_delay {l : Launch} {d n0 s0 : Nat} (hd : 610 ≤ d) (h0 : l.stackTraces = false) (σ : vMem) (a0 : Nat) : V (P_X1_delay l d n0 s0) (vEmb eI) σ 0 [some (.ref a0)] [] (f_X1_delay σ a0) := by
  have hC : vPx (P_X1_delay l d n0 s0) cX1_delay 1 "NobodyBeenAft" (some .int) d := vMP_cx
  refine V_eq (f_X1_delay.eq_1 ..) ?_
  refine V_aload_n hC dX1_delay_0 rfl ?_
  refine V_aload_n hC dX1_delay_1 rfl ?_
  refine g_X1_21 hC dX1_delay_2 (fun b => ?_)
  refine g_X1_215 hC dX1_delay_5 ?_
  refine V_cko (fun hm => V_callV_I (c := 1) (As := [.int (gi σ b 4)]) (rest := []) (d' := 609) hC dX1_delay_8 1 (lw_V q684 q686 qs7 q85 q687) (by decide +kernel) (List.mem_singleton.mp hm) (by decide) (by decide) rfl rfl rfl (Nat.le_of_ble_eq_true rfl) (Nat.le_trans (by decide) hd) (by decide) vMP_l (fun _ h => c_X1_delayAt (Nat.le_refl _) h0 h) (fun r σ_1 => ?_))
  exact V_ireturn dX1_delay_11 rfl rfl
theorem c_X1_delay {l : Launch} {d : Nat} (hd : 610 ≤ d) (h0 : l.stackTraces = false) {σ : vMem} {a0 : Nat} {r : Int32 × vMem} (h : f_X1_delay σ a0 = some r) : vOk l yX1_delay cX1_delay 1 (some .int) d [.ref a0] σ (.inl ((eI).1 r, (eI).2 r)) := V_method (em := eI) [some (.ref a0)] (by decide +kernel) rfl (Nat.le_of_ble_eq_true rfl) (w_X1_delay hd h0 σ a0) h
/-! NobodyBeenAft.refusesOrder(LNobodyBeenAft$Watch;)I -/
def f_X1_refusesOrder (σ : vMem) (a0 : Nat) : Option (Int32) := cko σ a0 [2] (cko σ a0 [2] (if ¬ (gi σ a0 8) = (gi σ a0 4) then (cko σ a0 [2] (if ¬ (gi σ a0 7) = 12 then (some 0) else some (-3))) else some (-2)))
abbrev P_X1_refusesOrder (l : Launch) (d n0 s0 : Nat) : vX → Prop := vMP l yX1_refusesOrder cX1_refusesOrder 1 (some .int) d n0 s0
theorem w_X1_refusesOrder {l : Launch} {d n0 s0 : Nat} (hd : 0 ≤ d) (σ : vMem) (a0 : Nat) : V (P_X1_refusesOrder l d n0 s0) (vEmb (ePI σ)) σ 0 [some (.ref a0)] [] (f_X1_refusesOrder σ a0) := by
  have hC : vPx (P_X1_refusesOrder l d n0 s0) cX1_refusesOrder 1 "NobodyBeenAft" (some .int) d := vMP_cx
  refine V_eq (f_X1_refusesOrder.eq_1 ..) ?_
  refine V_aload_n hC dX1_refusesOrder_0 rfl ?_
  refine g_X1_242 hC dX1_refusesOrder_1 ?_
  refine V_aload_n hC dX1_refusesOrder_4 rfl ?_
  refine g_X1_215 hC dX1_refusesOrder_5 ?_
  refine V_icmp_ne (tgt := 16) hC dX1_refusesOrder_8 (by decide) ?_ ?_
  · refine V_aload_n hC dX1_refusesOrder_16 rfl ?_
    refine g_X1_209 hC dX1_refusesOrder_17 ?_
    refine V_bipush (v := 12) hC dX1_refusesOrder_20 rfl ?_
    refine V_icmp_ne (tgt := 30) hC dX1_refusesOrder_22 (by decide) ?_ ?_
    · refine V_iconst (v := 0) hC dX1_refusesOrder_30 rfl ?_
      exact V_ireturn dX1_refusesOrder_31 rfl rfl
    · refine V_bipush (v := (-3)) hC dX1_refusesOrder_25 rfl ?_
      refine V_goto (tgt := 31) hC dX1_refusesOrder_27 (by decide) ?_
      exact V_ireturn dX1_refusesOrder_31 rfl rfl
  · refine V_bipush (v := (-2)) hC dX1_refusesOrder_11 rfl ?_
    refine V_goto (tgt := 31) hC dX1_refusesOrder_13 (by decide) ?_
    exact V_ireturn dX1_refusesOrder_31 rfl rfl
theorem c_X1_refusesOrder {l : Launch} {d : Nat} (hd : 0 ≤ d) {σ : vMem} {a0 : Nat} {r : Int32} (h : f_X1_refusesOrder σ a0 = some r) : vOk l yX1_refusesOrder cX1_refusesOrder 1 (some .int) d [.ref a0] σ (.inl (((ePI σ)).1 r, ((ePI σ)).2 r)) := V_method (em := (ePI σ)) [some (.ref a0)] (by decide +kernel) rfl (Nat.le_of_ble_eq_true rfl) (w_X1_refusesOrder hd σ a0) h
/-! NobodyBeenAft$Watch.be(LNobodyBeenAft$Watch;)V -/
def f_X2_be (σ : vMem) (a0 : Nat) (a1 : Nat) : Option (vMem) := cko σ a1 [2] (dr (gr σ a1 0) (fun b => cko σ a0 [2] (dr (gr σ a0 0) (fun b_1 => cpyI σ b 0 b_1 0 8 (fun σ_1 => cko σ_1 a1 [2] (dr (gr σ_1 a1 1) (fun b_2 => cko σ_1 a0 [2] (dr (gr σ_1 a0 1) (fun b_3 => cpyI σ_1 b_2 0 b_3 0 8 (fun σ_2 => cko σ_2 a1 [2] (dr (gr σ_2 a1 2) (fun b_4 => cko σ_2 a0 [2] (dr (gr σ_2 a0 2) (fun b_5 => cpyI σ_2 b_4 0 b_5 0 12 (fun σ_3 => cko σ_3 a1 [2] (dr (gr σ_3 a1 3) (fun b_6 => cko σ_3 a0 [2] (dr (gr σ_3 a0 3) (fun b_7 => cpyI σ_3 b_6 0 b_7 0 12 (fun σ_4 => cko σ_4 a1 [2] (cko σ_4 a0 [2] (vl (si σ_4 a0 4 (gi σ_4 a1 4)) (fun σ_5 => cko σ_5 a1 [2] (cko σ_5 a0 [2] (vl (si σ_5 a0 5 (gi σ_5 a1 5)) (fun σ_6 => cko σ_6 a1 [2] (cko σ_6 a0 [2] (vl (si σ_6 a0 6 (gi σ_6 a1 6)) (fun σ_7 => cko σ_7 a1 [2] (cko σ_7 a0 [2] (vl (si σ_7 a0 7 (gi σ_7 a1 7)) (fun σ_8 => cko σ_8 a1 [2] (cko σ_8 a0 [2] (vl (si σ_8 a0 8 (gi σ_8 a1 8)) (fun σ_9 => some σ_9)))))))))))))))))))))))))))))))))))
abbrev P_X2_be (l : Launch) (d n0 s0 : Nat) : vX → Prop := vMP l yX2_be cX2_be 2 none d n0 s0
theorem w_X2_be {l : Launch} {d n0 s0 : Nat} (hd : 0 ≤ d) (σ : vMem) (a0 : Nat) (a1 : Nat) : V (P_X2_be l d n0 s0) (vEmb eV) σ 0 [some (.ref a0), some (.ref a1)] [] (f_X2_be σ a0 a1) := by
  have hC : vPx (P_X2_be l d n0 s0) cX2_be 2 "NobodyBeenAft$Watch" none d := vMP_cx
  refine V_eq (f_X2_be.eq_1 ..) ?_
  refine V_aload_n hC dX2_be_0 rfl ?_
  refine g_X2_9 hC dX2_be_1 (fun b => ?_)
  refine V_iconst (v := 0) hC dX2_be_4 rfl ?_
  refine V_aload_n hC dX2_be_5 rfl ?_
  refine g_X2_9 hC dX2_be_6 (fun b_1 => ?_)
  refine V_iconst (v := 0) hC dX2_be_9 rfl ?_
  refine V_bipush (v := 8) hC dX2_be_10 rfl ?_
  refine V_cpyI hC dX2_be_12 q709 q470 q469 q94 (Nat.le_of_ble_eq_true rfl) (fun σ_1 => ?_)
  refine V_aload_n hC dX2_be_15 rfl ?_
  refine g_X2_15 hC dX2_be_16 (fun b_2 => ?_)
  refine V_iconst (v := 0) hC dX2_be_19 rfl ?_
  refine V_aload_n hC dX2_be_20 rfl ?_
  refine g_X2_15 hC dX2_be_21 (fun b_3 => ?_)
  refine V_iconst (v := 0) hC dX2_be_24 rfl ?_
  refine V_bipush (v := 8) hC dX2_be_25 rfl ?_
  refine V_cpyI hC dX2_be_27 q709 q470 q469 q94 (Nat.le_of_ble_eq_true rfl) (fun σ_2 => ?_)
  refine V_aload_n hC dX2_be_30 rfl ?_
  refine g_X2_18 hC dX2_be_31 (fun b_4 => ?_)
  refine V_iconst (v := 0) hC dX2_be_34 rfl ?_
  refine V_aload_n hC dX2_be_35 rfl ?_
  refine g_X2_18 hC dX2_be_36 (fun b_5 => ?_)
  refine V_iconst (v := 0) hC dX2_be_39 rfl ?_
  refine V_bipush (v := 12) hC dX2_be_40 rfl ?_
  refine V_cpyI hC dX2_be_42 q709 q470 q469 q94 (Nat.le_of_ble_eq_true rfl) (fun σ_3 => ?_)
  refine V_aload_n hC dX2_be_45 rfl ?_
  refine g_X2_21 hC dX2_be_46 (fun b_6 => ?_)
  refine V_iconst (v := 0) hC dX2_be_49 rfl ?_
  refine V_aload_n hC dX2_be_50 rfl ?_
  refine g_X2_21 hC dX2_be_51 (fun b_7 => ?_)
  refine V_iconst (v := 0) hC dX2_be_54 rfl ?_
  refine V_bipush (v := 12) hC dX2_be_55 rfl ?_
  refine V_cpyI hC dX2_be_57 q709 q470 q469 q94 (Nat.le_of_ble_eq_true rfl) (fun σ_4 => ?_)
  refine V_aload_n hC dX2_be_60 rfl ?_
  refine V_aload_n hC dX2_be_61 rfl ?_
  refine g_X2_37 hC dX2_be_62 ?_
  refine p_X2_37 hC dX2_be_65 (fun σ_5 => ?_)
  refine V_aload_n hC dX2_be_68 rfl ?_
  refine V_aload_n hC dX2_be_69 rfl ?_
  refine g_X2_24 hC dX2_be_70 ?_
  refine p_X2_24 hC dX2_be_73 (fun σ_6 => ?_)
  refine V_aload_n hC dX2_be_76 rfl ?_
  refine V_aload_n hC dX2_be_77 rfl ?_
  refine g_X2_40 hC dX2_be_78 ?_
  refine p_X2_40 hC dX2_be_81 (fun σ_7 => ?_)
  refine V_aload_n hC dX2_be_84 rfl ?_
  refine V_aload_n hC dX2_be_85 rfl ?_
  refine g_X2_43 hC dX2_be_86 ?_
  refine p_X2_43 hC dX2_be_89 (fun σ_8 => ?_)
  refine V_aload_n hC dX2_be_92 rfl ?_
  refine V_aload_n hC dX2_be_93 rfl ?_
  refine g_X2_28 hC dX2_be_94 ?_
  refine p_X2_28 hC dX2_be_97 (fun σ_9 => ?_)
  exact V_return dX2_be_100 rfl rfl
theorem c_X2_be {l : Launch} {d : Nat} (hd : 0 ≤ d) {σ : vMem} {a0 : Nat} {a1 : Nat} {r : vMem} (h : f_X2_be σ a0 a1 = some r) : vOk l yX2_be cX2_be 2 none d [.ref a0, .ref a1] σ (.inl ((eV).1 r, (eV).2 r)) := V_method (em := eV) [some (.ref a0), some (.ref a1)] (by decide +kernel) rfl (Nat.le_of_ble_eq_true rfl) (w_X2_be hd σ a0 a1) h
/-! NobodyBeenAft.remember(LNobodyBeenAft$Watch;)V -/
def f_X1_remember (σ : vMem) (a0 : Nat) (a1 : Nat) : Option (vMem) := cko σ a0 [1] (vl (fun (σ_1 : vMem) => cko σ_1 a0 [1] (dr (gr σ_1 a0 3) (fun b => cko σ_1 a0 [1] (cka σ_1 b 110 (gi σ_1 a0 14) (dr (gr σ_1 b (Int32.toNatClampNeg (gi σ_1 a0 14))) (fun b_1 => cko σ_1 b_1 [2] (bv (f_X2_be σ_1 b_1 a1) (fun σ_2 => cko σ_2 a0 [1] (cko σ_2 a0 [1] (vl (si σ_2 a0 14 ((gi σ_2 a0 14) + 1)) (fun σ_3 => some σ_3))))))))))) (fun k => if ¬ (gi σ a0 14) = 15 then (k σ) else cko σ a0 [1] (dr (gr σ a0 3) (fun b_2 => cka σ b_2 110 0 (dr (gr σ b_2 (Int32.toNatClampNeg 0)) (fun b_3 => cko σ a0 [1] (dr (gr σ a0 3) (fun b_4 => cko σ a0 [1] (dr (gr σ a0 3) (fun b_5 => cpyR σ b_4 1 b_5 0 14 (fun σ_4 => cko σ_4 a0 [1] (dr (gr σ_4 a0 3) (fun b_6 => cko σ_4 b_3 [2] (cka σ_4 b_6 110 14 (vl (sr σ_4 b_6 (Int32.toNatClampNeg 14) (some b_3)) (fun σ_5 => cko σ_5 a0 [1] (cko σ_5 a0 [1] (vl (si σ_5 a0 14 ((gi σ_5 a0 14) - 1)) (fun σ_6 => k σ_6)))))))))))))))))))
abbrev P_X1_remember (l : Launch) (d n0 s0 : Nat) : vX → Prop := vMP l yX1_remember cX1_remember 3 none d n0 s0
theorem w_X1_remember {l : Launch} {d n0 s0 : Nat} (hd : 1 ≤ d) (σ : vMem) (a0 : Nat) (a1 : Nat) : V (P_X1_remember l d n0 s0) (vEmb eV) σ 0 [some (.ref a0), some (.ref a1), none] [] (f_X1_remember σ a0 a1) := by
  have hC : vPx (P_X1_remember l d n0 s0) cX1_remember 3 "NobodyBeenAft" none d := vMP_cx
  refine V_eq (f_X1_remember.eq_1 ..) ?_
  refine V_aload_n hC dX1_remember_0 rfl ?_
  refine g_X1_164 hC dX1_remember_1 ?_
  refine V_bipush (v := 15) hC dX1_remember_4 rfl ?_
  refine V_let (B := fun k => ∀ (σ_1 : vMem), V (P_X1_remember l d n0 s0) (vEmb eV) σ_1 49 [some (.ref a0), some (.ref a1), none] [] (k σ_1)) ?_ ?_
  · intro σ_1
    refine V_aload_n hC dX1_remember_49 rfl ?_
    refine g_X1_31 hC dX1_remember_50 (fun b => ?_)
    refine V_aload_n hC dX1_remember_53 rfl ?_
    refine g_X1_164 hC dX1_remember_54 ?_
    refine V_aald (k := 110) (t0 := 6) hC dX1_remember_57 (by decide) (fun _ => rfl) rfl (V_dr fun b_1 => ?_)
    refine V_aload_n hC dX1_remember_58 rfl ?_
    refine V_cko (fun hm => V_callV_V (c := 2) (As := [.ref a1]) (rest := []) (d' := 0) hC dX1_remember_59 1 (lw_V q705 q706 q707 q86 q708) (by decide +kernel) (List.mem_singleton.mp hm) (by decide) (by decide) rfl rfl rfl (Nat.le_of_ble_eq_true rfl) (Nat.le_trans (by decide) hd) (by decide) vMP_l (fun _ h => c_X2_be (Nat.le_refl _) h) (fun σ_2 => ?_))
    refine V_aload_n hC dX1_remember_62 rfl ?_
    refine V_dup hC dX1_remember_63 rfl ?_
    refine g_X1_164 hC dX1_remember_64 ?_
    refine V_iconst (v := 1) hC dX1_remember_67 rfl ?_
    refine V_iadd hC dX1_remember_68 ?_
    refine p_X1_164 hC dX1_remember_69 (fun σ_3 => ?_)
    exact V_return dX1_remember_72 rfl rfl
  · intro k hk
    refine V_icmp_ne (tgt := 49) hC dX1_remember_6 (by decide) ?_ ?_
    · exact hk σ
    · refine V_aload_n hC dX1_remember_9 rfl ?_
      refine g_X1_31 hC dX1_remember_10 (fun b_2 => ?_)
      refine V_iconst (v := 0) hC dX1_remember_13 rfl ?_
      refine V_aald (k := 110) (t0 := 6) hC dX1_remember_14 (by decide) (fun _ => rfl) rfl (V_dr fun b_3 => ?_)
      refine V_astore_n (ls' := [some (.ref a0), some (.ref a1), some (.ref b_3)]) hC dX1_remember_15 (by decide) rfl rfl ?_
      refine V_aload_n hC dX1_remember_16 rfl ?_
      refine g_X1_31 hC dX1_remember_17 (fun b_4 => ?_)
      refine V_iconst (v := 1) hC dX1_remember_20 rfl ?_
      refine V_aload_n hC dX1_remember_21 rfl ?_
      refine g_X1_31 hC dX1_remember_22 (fun b_5 => ?_)
      refine V_iconst (v := 0) hC dX1_remember_25 rfl ?_
      refine V_bipush (v := 14) hC dX1_remember_26 rfl ?_
      refine V_cpyR hC dX1_remember_28 q468 q470 q469 q94 (Nat.le_of_ble_eq_true rfl) (fun σ_4 => ?_)
      refine V_aload_n hC dX1_remember_31 rfl ?_
      refine g_X1_31 hC dX1_remember_32 (fun b_6 => ?_)
      refine V_bipush (v := 14) hC dX1_remember_35 rfl ?_
      refine V_aload_n hC dX1_remember_37 rfl ?_
      refine V_astq (k := 110) (t0 := 6) (c := 2) hC dX1_remember_38 (by decide) (by decide) (by decide) (fun _ => rfl) rfl (fun σ_5 => ?_)
      refine V_aload_n hC dX1_remember_39 rfl ?_
      refine V_dup hC dX1_remember_40 rfl ?_
      refine g_X1_164 hC dX1_remember_41 ?_
      refine V_iconst (v := 1) hC dX1_remember_44 rfl ?_
      refine V_isub hC dX1_remember_45 ?_
      refine p_X1_164 hC dX1_remember_46 (fun σ_6 => ?_)
      refine V_clr [2] (ls' := [some (.ref a0), some (.ref a1), none]) rfl ?_
      exact hk σ_6
theorem c_X1_remember {l : Launch} {d : Nat} (hd : 1 ≤ d) {σ : vMem} {a0 : Nat} {a1 : Nat} {r : vMem} (h : f_X1_remember σ a0 a1 = some r) : vOk l yX1_remember cX1_remember 3 none d [.ref a0, .ref a1] σ (.inl ((eV).1 r, (eV).2 r)) := V_method (em := eV) [some (.ref a0), some (.ref a1), none] (by decide +kernel) rfl (Nat.le_of_ble_eq_true rfl) (w_X1_remember hd σ a0 a1) h
/-! NobodyBeenAft.turned(I)I -/
def f_X1_turned (σ : vMem) (a0 : Nat) (x1 : Int32) : Option (Int32) := cko σ a0 [1] (bp (f_J7_bitCount σ (gi σ a0 10)) (fun r => if ¬ (r - (r / 2) * 2) = 1 then (some x1) else some (-x1)))
abbrev P_X1_turned (l : Launch) (d n0 s0 : Nat) : vX → Prop := vMP l yX1_turned cX1_turned 2 (some .int) d n0 s0
theorem w_X1_turned {l : Launch} {d n0 s0 : Nat} (hd : 1 ≤ d) (σ : vMem) (a0 : Nat) (x1 : Int32) : V (P_X1_turned l d n0 s0) (vEmb (ePI σ)) σ 0 [some (.ref a0), some (.int x1)] [] (f_X1_turned σ a0 x1) := by
  have hC : vPx (P_X1_turned l d n0 s0) cX1_turned 2 "NobodyBeenAft" (some .int) d := vMP_cx
  refine V_eq (f_X1_turned.eq_1 ..) ?_
  refine V_aload_n hC dX1_turned_0 rfl ?_
  refine g_X1_128 hC dX1_turned_1 ?_
  refine V_callS_PI (As := [.int (gi σ a0 10)]) (rest := []) (d' := 0) hC dX1_turned_4 1 (lw_S q718 q624 q103 q625) (by decide +kernel) rfl rfl (Nat.le_of_ble_eq_true rfl) (Nat.le_trans (by decide) hd) (by decide) vMP_l (fun _ h => c_J7_bitCount (Nat.le_refl _) h) (fun r => ?_)
  refine V_iconst (v := 2) hC dX1_turned_7 rfl ?_
  refine V_irem hC dX1_turned_8 (by decide) ?_
  refine V_iconst (v := 1) hC dX1_turned_9 rfl ?_
  refine V_icmp_ne (tgt := 18) hC dX1_turned_10 (by decide) ?_ ?_
  · refine V_iload_n hC dX1_turned_18 rfl ?_
    exact V_ireturn dX1_turned_19 rfl rfl
  · refine V_iload_n hC dX1_turned_13 rfl ?_
    refine V_ineg hC dX1_turned_14 ?_
    refine V_goto (tgt := 19) hC dX1_turned_15 (by decide) ?_
    exact V_ireturn dX1_turned_19 rfl rfl
theorem c_X1_turned {l : Launch} {d : Nat} (hd : 1 ≤ d) {σ : vMem} {a0 : Nat} {x1 : Int32} {r : Int32} (h : f_X1_turned σ a0 x1 = some r) : vOk l yX1_turned cX1_turned 2 (some .int) d [.ref a0, .int x1] σ (.inl (((ePI σ)).1 r, ((ePI σ)).2 r)) := V_method (em := (ePI σ)) [some (.ref a0), some (.int x1)] (by decide +kernel) rfl (Nat.le_of_ble_eq_true rfl) (w_X1_turned hd σ a0 x1) h
/-! NobodyBeenAft$Watch.send(II)V -/
def f_X2_send_5 (a0 : Nat) (x1 : Int32) (x2 : Int32) (k : vMem → Int32 → Option (vMem)) : Nat → vMem → Int32 → Option (vMem)
  | 0, _, _ => none
  | n + 1, σ_6, v3_2 => if v3_2 ≤ 0 then (k σ_6 v3_2) else cko σ_6 a0 [2] (dr (gr σ_6 a0 2) (fun b_2 => cka σ_6 b_2 105 (v3_2 - 1) (if (gi σ_6 b_2 (Int32.toNatClampNeg (v3_2 - 1))) ≤ x1 then (k σ_6 v3_2) else cko σ_6 a0 [2] (dr (gr σ_6 a0 2) (fun b_3 => cko σ_6 a0 [2] (dr (gr σ_6 a0 2) (fun b_4 => cka σ_6 b_4 105 (v3_2 - 1) (cka σ_6 b_3 105 v3_2 (vl (si σ_6 b_3 (Int32.toNatClampNeg v3_2) (gi σ_6 b_4 (Int32.toNatClampNeg (v3_2 - 1)))) (fun σ_7 => cko σ_7 a0 [2] (dr (gr σ_7 a0 3) (fun b_5 => cko σ_7 a0 [2] (dr (gr σ_7 a0 3) (fun b_6 => cka σ_7 b_6 105 (v3_2 - 1) (cka σ_7 b_5 105 v3_2 (vl (si σ_7 b_5 (Int32.toNatClampNeg v3_2) (gi σ_7 b_6 (Int32.toNatClampNeg (v3_2 - 1)))) (fun σ_8 => vl (v3_2 + (-1)) (fun v3_3 => f_X2_send_5 a0 x1 x2 k n σ_8 v3_3))))))))))))))))))
def f_X2_send (σ : vMem) (a0 : Nat) (x1 : Int32) (x2 : Int32) : Option (vMem) := cko σ a0 [2] (vl (gi σ a0 7) (fun v3 => vl (fun (σ_1 : vMem) (v3_1 : Int32) => cko σ_1 a0 [2] (dr (gr σ_1 a0 2) (fun b => cka σ_1 b 105 v3_1 (vl (si σ_1 b (Int32.toNatClampNeg v3_1) x1) (fun σ_2 => cko σ_2 a0 [2] (dr (gr σ_2 a0 3) (fun b_1 => cka σ_2 b_1 105 v3_1 (vl (si σ_2 b_1 (Int32.toNatClampNeg v3_1) x2) (fun σ_3 => cko σ_3 a0 [2] (cko σ_3 a0 [2] (vl (si σ_3 a0 7 ((gi σ_3 a0 7) + 1)) (fun σ_4 => cko σ_4 a0 [2] (cko σ_4 a0 [2] (vl (si σ_4 a0 8 (gi σ_4 a0 4)) (fun σ_5 => some σ_5))))))))))))))) (fun k => f_X2_send_5 a0 x1 x2 k FU σ v3)))
abbrev P_X2_send (l : Launch) (d n0 s0 : Nat) : vX → Prop := vMP l yX2_send cX2_send 4 none d n0 s0
theorem w_X2_send_5 {l : Launch} {d n0 s0 : Nat} (hd : 0 ≤ d) (a0 : Nat) (x1 : Int32) (x2 : Int32) (k : vMem → Int32 → Option (vMem)) (hk : ∀ (σ_1 : vMem), ∀ (v3_1 : Int32), V (P_X2_send l d n0 s0) (vEmb eV) σ_1 55 [some (.ref a0), some (.int x1), some (.int x2), some (.int v3_1)] [] (k σ_1 v3_1)) : ∀ (n : Nat) (σ_6 : vMem) (v3_2 : Int32), V (P_X2_send l d n0 s0) (vEmb eV) σ_6 5 [some (.ref a0), some (.int x1), some (.int x2), some (.int v3_2)] [] (f_X2_send_5 a0 x1 x2 k n σ_6 v3_2) := by
  have hC : vPx (P_X2_send l d n0 s0) cX2_send 4 "NobodyBeenAft$Watch" none d := vMP_cx
  intro n
  induction n with
  | zero =>
    intro σ_6 v3_2
    exact V_none
  | succ n ih =>
    intro σ_6 v3_2
    refine V_eq (f_X2_send_5.eq_2 ..) ?_
    refine V_iload_n hC dX2_send_5 rfl ?_
    refine V_if_le (tgt := 55) hC dX2_send_6 (by decide) ?_ ?_
    · exact hk σ_6 v3_2
    · refine V_aload_n hC dX2_send_9 rfl ?_
      refine g_X2_18 hC dX2_send_10 (fun b_2 => ?_)
      refine V_iload_n hC dX2_send_13 rfl ?_
      refine V_iconst (v := 1) hC dX2_send_14 rfl ?_
      refine V_isub hC dX2_send_15 ?_
      refine V_iald hC dX2_send_16 ?_
      refine V_iload_n hC dX2_send_17 rfl ?_
      refine V_icmp_le (tgt := 55) hC dX2_send_18 (by decide) ?_ ?_
      · exact hk σ_6 v3_2
      · refine V_aload_n hC dX2_send_21 rfl ?_
        refine g_X2_18 hC dX2_send_22 (fun b_3 => ?_)
        refine V_iload_n hC dX2_send_25 rfl ?_
        refine V_aload_n hC dX2_send_26 rfl ?_
        refine g_X2_18 hC dX2_send_27 (fun b_4 => ?_)
        refine V_iload_n hC dX2_send_30 rfl ?_
        refine V_iconst (v := 1) hC dX2_send_31 rfl ?_
        refine V_isub hC dX2_send_32 ?_
        refine V_iald hC dX2_send_33 ?_
        refine V_iast hC dX2_send_34 (fun σ_7 => ?_)
        refine V_aload_n hC dX2_send_35 rfl ?_
        refine g_X2_21 hC dX2_send_36 (fun b_5 => ?_)
        refine V_iload_n hC dX2_send_39 rfl ?_
        refine V_aload_n hC dX2_send_40 rfl ?_
        refine g_X2_21 hC dX2_send_41 (fun b_6 => ?_)
        refine V_iload_n hC dX2_send_44 rfl ?_
        refine V_iconst (v := 1) hC dX2_send_45 rfl ?_
        refine V_isub hC dX2_send_46 ?_
        refine V_iald hC dX2_send_47 ?_
        refine V_iast hC dX2_send_48 (fun σ_8 => ?_)
        refine V_iincL (v := v3_2 + (-1)) (ls' := fun v3_3 => [some (.ref a0), some (.int x1), some (.int x2), some (.int v3_3)]) hC dX2_send_49 rfl (by decide) rfl rfl (fun _ => rfl) (fun v3_3 => ?_)
        refine V_goto (tgt := 5) hC dX2_send_52 (by decide) ?_
        exact ih σ_8 v3_3
theorem w_X2_send {l : Launch} {d n0 s0 : Nat} (hd : 0 ≤ d) (σ : vMem) (a0 : Nat) (x1 : Int32) (x2 : Int32) : V (P_X2_send l d n0 s0) (vEmb eV) σ 0 [some (.ref a0), some (.int x1), some (.int x2), none] [] (f_X2_send σ a0 x1 x2) := by
  have hC : vPx (P_X2_send l d n0 s0) cX2_send 4 "NobodyBeenAft$Watch" none d := vMP_cx
  refine V_eq (f_X2_send.eq_1 ..) ?_
  refine V_aload_n hC dX2_send_0 rfl ?_
  refine g_X2_43 hC dX2_send_1 ?_
  refine V_istore_nL (ls' := fun v3 => [some (.ref a0), some (.int x1), some (.int x2), some (.int v3)]) hC dX2_send_4 (by decide) rfl (fun _ => rfl) (fun v3 => ?_)
  refine V_let (B := fun k => ∀ (σ_1 : vMem), ∀ (v3_1 : Int32), V (P_X2_send l d n0 s0) (vEmb eV) σ_1 55 [some (.ref a0), some (.int x1), some (.int x2), some (.int v3_1)] [] (k σ_1 v3_1)) ?_ ?_
  · intro σ_1 v3_1
    refine V_aload_n hC dX2_send_55 rfl ?_
    refine g_X2_18 hC dX2_send_56 (fun b => ?_)
    refine V_iload_n hC dX2_send_59 rfl ?_
    refine V_iload_n hC dX2_send_60 rfl ?_
    refine V_iast hC dX2_send_61 (fun σ_2 => ?_)
    refine V_aload_n hC dX2_send_62 rfl ?_
    refine g_X2_21 hC dX2_send_63 (fun b_1 => ?_)
    refine V_iload_n hC dX2_send_66 rfl ?_
    refine V_iload_n hC dX2_send_67 rfl ?_
    refine V_iast hC dX2_send_68 (fun σ_3 => ?_)
    refine V_aload_n hC dX2_send_69 rfl ?_
    refine V_dup hC dX2_send_70 rfl ?_
    refine g_X2_43 hC dX2_send_71 ?_
    refine V_iconst (v := 1) hC dX2_send_74 rfl ?_
    refine V_iadd hC dX2_send_75 ?_
    refine p_X2_43 hC dX2_send_76 (fun σ_4 => ?_)
    refine V_aload_n hC dX2_send_79 rfl ?_
    refine V_aload_n hC dX2_send_80 rfl ?_
    refine g_X2_37 hC dX2_send_81 ?_
    refine p_X2_28 hC dX2_send_84 (fun σ_5 => ?_)
    exact V_return dX2_send_87 rfl rfl
  · intro k hk
    exact (w_X2_send_5 hd a0 x1 x2 k hk) FU σ v3
theorem c_X2_send {l : Launch} {d : Nat} (hd : 0 ≤ d) {σ : vMem} {a0 : Nat} {x1 : Int32} {x2 : Int32} {r : vMem} (h : f_X2_send σ a0 x1 x2 = some r) : vOk l yX2_send cX2_send 4 none d [.ref a0, .int x1, .int x2] σ (.inl ((eV).1 r, (eV).2 r)) := V_method (em := eV) [some (.ref a0), some (.int x1), some (.int x2), none] (by decide +kernel) rfl (Nat.le_of_ble_eq_true rfl) (w_X2_send hd σ a0 x1 x2) h
/-! NobodyBeenAft.orders(LNobodyBeenAft$Watch;I)I -/
def f_X1_orders (σ : vMem) (a0 : Nat) (a1 : Nat) (x2 : Int32) : Option (Int32 × vMem) := cko σ a1 [2] (cko σ a0 [1] (bd (f_X1_delayAt σ a0 (gi σ a1 4)) (fun r σ_1 => cko σ_1 a1 [2] (cko σ_1 a0 [1] (bp (f_X1_turned σ_1 a0 x2) (fun r_1 => cko σ_1 a1 [2] (bv (f_X2_send σ_1 a1 ((gi σ_1 a1 4) + r) r_1) (fun σ_2 => some (r, σ_2)))))))))
abbrev P_X1_orders (l : Launch) (d n0 s0 : Nat) : vX → Prop := vMP l yX1_orders cX1_orders 4 (some .int) d n0 s0
theorem w_X1_orders {l : Launch} {d n0 s0 : Nat} (hd : 610 ≤ d) (h0 : l.stackTraces = false) (σ : vMem) (a0 : Nat) (a1 : Nat) (x2 : Int32) : V (P_X1_orders l d n0 s0) (vEmb eI) σ 0 [some (.ref a0), some (.ref a1), some (.int x2), none] [] (f_X1_orders σ a0 a1 x2) := by
  have hC : vPx (P_X1_orders l d n0 s0) cX1_orders 4 "NobodyBeenAft" (some .int) d := vMP_cx
  refine V_eq (f_X1_orders.eq_1 ..) ?_
  refine V_aload_n hC dX1_orders_0 rfl ?_
  refine V_aload_n hC dX1_orders_1 rfl ?_
  refine g_X1_215 hC dX1_orders_2 ?_
  refine V_cko (fun hm => V_callV_I (c := 1) (As := [.int (gi σ a1 4)]) (rest := []) (d' := 609) hC dX1_orders_5 1 (lw_V q684 q686 qs7 q85 q687) (by decide +kernel) (List.mem_singleton.mp hm) (by decide) (by decide) rfl rfl rfl (Nat.le_of_ble_eq_true rfl) (Nat.le_trans (by decide) hd) (by decide) vMP_l (fun _ h => c_X1_delayAt (Nat.le_refl _) h0 h) (fun r σ_1 => ?_))
  refine V_istore_n (ls' := [some (.ref a0), some (.ref a1), some (.int x2), some (.int r)]) hC dX1_orders_8 (by decide) rfl rfl ?_
  refine V_aload_n hC dX1_orders_9 rfl ?_
  refine V_aload_n hC dX1_orders_10 rfl ?_
  refine g_X1_215 hC dX1_orders_11 ?_
  refine V_iload_n hC dX1_orders_14 rfl ?_
  refine V_iadd hC dX1_orders_15 ?_
  refine V_aload_n hC dX1_orders_16 rfl ?_
  refine V_iload_n hC dX1_orders_17 rfl ?_
  refine V_cko (fun hm => V_callV_PI (c := 1) (As := [.int x2]) (rest := [.int ((gi σ_1 a1 4) + r), .ref a1]) (d' := 1) hC dX1_orders_18 1 (lw_V q714 q716 qs10 q85 q717) (by decide +kernel) (List.mem_singleton.mp hm) (by decide) (by decide) rfl rfl rfl (Nat.le_of_ble_eq_true rfl) (Nat.le_trans (by decide) hd) (by decide) vMP_l (fun _ h => c_X1_turned (Nat.le_refl _) h) (fun r_1 => ?_))
  refine V_cko (fun hm => V_callV_V (c := 2) (As := [.int ((gi σ_1 a1 4) + r), .int r_1]) (rest := []) (d' := 0) hC dX1_orders_21 2 (lw_V q719 q720 q721 q86 q722) (by decide +kernel) (List.mem_singleton.mp hm) (by decide) (by decide) rfl rfl rfl (Nat.le_of_ble_eq_true rfl) (Nat.le_trans (by decide) hd) (by decide) vMP_l (fun _ h => c_X2_send (Nat.le_refl _) h) (fun σ_2 => ?_))
  refine V_iload_n hC dX1_orders_24 rfl ?_
  exact V_ireturn dX1_orders_25 rfl rfl
theorem c_X1_orders {l : Launch} {d : Nat} (hd : 610 ≤ d) (h0 : l.stackTraces = false) {σ : vMem} {a0 : Nat} {a1 : Nat} {x2 : Int32} {r : Int32 × vMem} (h : f_X1_orders σ a0 a1 x2 = some r) : vOk l yX1_orders cX1_orders 4 (some .int) d [.ref a0, .ref a1, .int x2] σ (.inl ((eI).1 r, (eI).2 r)) := V_method (em := eI) [some (.ref a0), some (.ref a1), some (.int x2), none] (by decide +kernel) rfl (Nat.le_of_ble_eq_true rfl) (w_X1_orders hd h0 σ a0 a1 x2) h
/-! NobodyBeenAft.order(I)I -/
def f_X1_order (σ : vMem) (a0 : Nat) (x1 : Int32) : Option (Int32 × vMem) := bp (f_X1_in σ (Int32.toInt64 x1) (-1) 1) (fun r => if ¬ r = 0 then (cko σ a0 [1] (dr (gr σ a0 0) (fun b => bp (f_X1_refusesOrder σ b) (fun r_1 => if 0 ≤ r_1 then (cko σ a0 [1] (dr (gr σ a0 0) (fun b_1 => cko σ a0 [1] (bv (f_X1_remember σ a0 b_1) (fun σ_1 => cko σ_1 a0 [1] (dr (gr σ_1 a0 0) (fun b_2 => cko σ_1 a0 [1] (bd (f_X1_orders σ_1 a0 b_2 x1) (fun r_2 σ_2 => some (r_2, σ_2)))))))))) else some (r_1, σ))))) else some ((-1), σ))
abbrev P_X1_order (l : Launch) (d n0 s0 : Nat) : vX → Prop := vMP l yX1_order cX1_order 3 (some .int) d n0 s0
theorem w_X1_order {l : Launch} {d n0 s0 : Nat} (hd : 611 ≤ d) (h0 : l.stackTraces = false) (σ : vMem) (a0 : Nat) (x1 : Int32) : V (P_X1_order l d n0 s0) (vEmb eI) σ 0 [some (.ref a0), some (.int x1), none] [] (f_X1_order σ a0 x1) := by
  have hC : vPx (P_X1_order l d n0 s0) cX1_order 3 "NobodyBeenAft" (some .int) d := vMP_cx
  refine V_eq (f_X1_order.eq_1 ..) ?_
  refine V_iload_n hC dX1_order_0 rfl ?_
  refine V_i2l hC dX1_order_1 ?_
  refine V_ldc2 hC dX1_order_2 q697 ?_
  refine V_lconst (v := 1) hC dX1_order_5 rfl ?_
  refine V_callS_PI (As := [.long (Int32.toInt64 x1), .long (-1), .long 1]) (rest := []) (d' := 0) hC dX1_order_6 3 (lw_S q285 q286 q85 q287) (by decide +kernel) rfl rfl (Nat.le_of_ble_eq_true rfl) (Nat.le_trans (by decide) hd) (by decide) vMP_l (fun _ h => c_X1_in (Nat.le_refl _) h) (fun r => ?_)
  refine V_if_ne (tgt := 14) hC dX1_order_9 (by decide) ?_ ?_
  · refine V_aload_n hC dX1_order_14 rfl ?_
    refine g_X1_21 hC dX1_order_15 (fun b => ?_)
    refine V_callS_PI (As := [.ref b]) (rest := []) (d' := 0) hC dX1_order_18 1 (lw_S q698 q699 q85 q700) (by decide +kernel) rfl rfl (Nat.le_of_ble_eq_true rfl) (Nat.le_trans (by decide) hd) (by decide) vMP_l (fun _ h => c_X1_refusesOrder (Nat.le_refl _) h) (fun r_1 => ?_)
    refine V_istore_n (ls' := [some (.ref a0), some (.int x1), some (.int r_1)]) hC dX1_order_21 (by decide) rfl rfl ?_
    refine V_iload_n hC dX1_order_22 rfl ?_
    refine V_if_ge (tgt := 28) hC dX1_order_23 (by decide) ?_ ?_
    · refine V_aload_n hC dX1_order_28 rfl ?_
      refine V_aload_n hC dX1_order_29 rfl ?_
      refine g_X1_21 hC dX1_order_30 (fun b_1 => ?_)
      refine V_cko (fun hm => V_callV_V (c := 1) (As := [.ref b_1]) (rest := []) (d' := 1) hC dX1_order_33 1 (lw_V q701 q703 qs8 q85 q704) (by decide +kernel) (List.mem_singleton.mp hm) (by decide) (by decide) rfl rfl rfl (Nat.le_of_ble_eq_true rfl) (Nat.le_trans (by decide) hd) (by decide) vMP_l (fun _ h => c_X1_remember (Nat.le_refl _) h) (fun σ_1 => ?_))
      refine V_aload_n hC dX1_order_36 rfl ?_
      refine V_aload_n hC dX1_order_37 rfl ?_
      refine g_X1_21 hC dX1_order_38 (fun b_2 => ?_)
      refine V_iload_n hC dX1_order_41 rfl ?_
      refine V_cko (fun hm => V_callV_I (c := 1) (As := [.ref b_2, .int x1]) (rest := []) (d' := 610) hC dX1_order_42 2 (lw_V q710 q712 qs9 q85 q713) (by decide +kernel) (List.mem_singleton.mp hm) (by decide) (by decide) rfl rfl rfl (Nat.le_of_ble_eq_true rfl) (Nat.le_trans (by decide) hd) (by decide) vMP_l (fun _ h => c_X1_orders (Nat.le_refl _) h0 h) (fun r_2 σ_2 => ?_))
      exact V_ireturn dX1_order_45 rfl rfl
    · refine V_iload_n hC dX1_order_26 rfl ?_
      exact V_ireturn dX1_order_27 rfl rfl
  · refine V_iconst (v := (-1)) hC dX1_order_12 rfl ?_
    exact V_ireturn dX1_order_13 rfl rfl
theorem c_X1_order {l : Launch} {d : Nat} (hd : 611 ≤ d) (h0 : l.stackTraces = false) {σ : vMem} {a0 : Nat} {x1 : Int32} {r : Int32 × vMem} (h : f_X1_order σ a0 x1 = some r) : vOk l yX1_order cX1_order 3 (some .int) d [.ref a0, .int x1] σ (.inl ((eI).1 r, (eI).2 r)) := V_method (em := eI) [some (.ref a0), some (.int x1), none] (by decide +kernel) rfl (Nat.le_of_ble_eq_true rfl) (w_X1_order hd h0 σ a0 x1) h
/-! NobodyBeenAft.refusesPass(III)I -/
def f_X1_refusesPass (σ : vMem) (a0 : Nat) (x1 : Int32) (x2 : Int32) (x3 : Int32) : Option (Int32) := cko σ a0 [1] (bp (f_X1_isMess σ a0 x1) (fun r => if r = 0 then (some (-1)) else bp (f_X1_in σ (Int32.toInt64 x2) 1 99) (fun r_1 => if r_1 = 0 then (some (-1)) else bp (f_X1_in σ (Int32.toInt64 x3) 0 1) (fun r_2 => if r_2 = 0 then (some (-1)) else cko σ a0 [1] (bp (f_X1_isMess σ a0 ((x1 + (2 * x3)) - 1)) (fun r_3 => if ¬ r_3 = 0 then (cko σ a0 [1] (dr (gr σ a0 0) (fun b => cko σ b [2] (dr (gr σ b 0) (fun b_1 => cka σ b_1 105 x1 (if x2 ≤ (gi σ b_1 (Int32.toNatClampNeg x1)) then (cko σ a0 [1] (dr (gr σ a0 0) (fun b_2 => cko σ b_2 [2] (dr (gr σ b_2 0) (fun b_3 => cka σ b_3 105 ((x1 + (2 * x3)) - 1) (if ((gi σ b_3 (Int32.toNatClampNeg ((x1 + (2 * x3)) - 1))) + x2) ≤ 99 then (some 0) else some (-3))))))) else some (-2))))))) else some (-1)))))))
abbrev P_X1_refusesPass (l : Launch) (d n0 s0 : Nat) : vX → Prop := vMP l yX1_refusesPass cX1_refusesPass 4 (some .int) d n0 s0
theorem w_X1_refusesPass {l : Launch} {d n0 s0 : Nat} (hd : 2 ≤ d) (σ : vMem) (a0 : Nat) (x1 : Int32) (x2 : Int32) (x3 : Int32) : V (P_X1_refusesPass l d n0 s0) (vEmb (ePI σ)) σ 0 [some (.ref a0), some (.int x1), some (.int x2), some (.int x3)] [] (f_X1_refusesPass σ a0 x1 x2 x3) := by
  have hC : vPx (P_X1_refusesPass l d n0 s0) cX1_refusesPass 4 "NobodyBeenAft" (some .int) d := vMP_cx
  refine V_eq (f_X1_refusesPass.eq_1 ..) ?_
  refine V_aload_n hC dX1_refusesPass_0 rfl ?_
  refine V_iload_n hC dX1_refusesPass_1 rfl ?_
  refine V_cko (fun hm => V_callV_PI (c := 1) (As := [.int x1]) (rest := []) (d' := 1) hC dX1_refusesPass_2 1 (lw_V q731 q733 qs12 q85 q734) (by decide +kernel) (List.mem_singleton.mp hm) (by decide) (by decide) rfl rfl rfl (Nat.le_of_ble_eq_true rfl) (Nat.le_trans (by decide) hd) (by decide) vMP_l (fun _ h => c_X1_isMess (Nat.le_refl _) h) (fun r => ?_))
  refine V_if_eq (tgt := 44) hC dX1_refusesPass_5 (by decide) ?_ ?_
  · refine V_iconst (v := (-1)) hC dX1_refusesPass_44 rfl ?_
    exact V_ireturn dX1_refusesPass_45 rfl rfl
  · refine V_iload_n hC dX1_refusesPass_8 rfl ?_
    refine V_i2l hC dX1_refusesPass_9 ?_
    refine V_lconst (v := 1) hC dX1_refusesPass_10 rfl ?_
    refine V_ldc2 hC dX1_refusesPass_11 q735 ?_
    refine V_callS_PI (As := [.long (Int32.toInt64 x2), .long 1, .long 99]) (rest := []) (d' := 0) hC dX1_refusesPass_14 3 (lw_S q285 q286 q85 q287) (by decide +kernel) rfl rfl (Nat.le_of_ble_eq_true rfl) (Nat.le_trans (by decide) hd) (by decide) vMP_l (fun _ h => c_X1_in (Nat.le_refl _) h) (fun r_1 => ?_)
    refine V_if_eq (tgt := 44) hC dX1_refusesPass_17 (by decide) ?_ ?_
    · refine V_iconst (v := (-1)) hC dX1_refusesPass_44 rfl ?_
      exact V_ireturn dX1_refusesPass_45 rfl rfl
    · refine V_iload_n hC dX1_refusesPass_20 rfl ?_
      refine V_i2l hC dX1_refusesPass_21 ?_
      refine V_lconst (v := 0) hC dX1_refusesPass_22 rfl ?_
      refine V_lconst (v := 1) hC dX1_refusesPass_23 rfl ?_
      refine V_callS_PI (As := [.long (Int32.toInt64 x3), .long 0, .long 1]) (rest := []) (d' := 0) hC dX1_refusesPass_24 3 (lw_S q285 q286 q85 q287) (by decide +kernel) rfl rfl (Nat.le_of_ble_eq_true rfl) (Nat.le_trans (by decide) hd) (by decide) vMP_l (fun _ h => c_X1_in (Nat.le_refl _) h) (fun r_2 => ?_)
      refine V_if_eq (tgt := 44) hC dX1_refusesPass_27 (by decide) ?_ ?_
      · refine V_iconst (v := (-1)) hC dX1_refusesPass_44 rfl ?_
        exact V_ireturn dX1_refusesPass_45 rfl rfl
      · refine V_aload_n hC dX1_refusesPass_30 rfl ?_
        refine V_iload_n hC dX1_refusesPass_31 rfl ?_
        refine V_iconst (v := 2) hC dX1_refusesPass_32 rfl ?_
        refine V_iload_n hC dX1_refusesPass_33 rfl ?_
        refine V_imul hC dX1_refusesPass_34 ?_
        refine V_iadd hC dX1_refusesPass_35 ?_
        refine V_iconst (v := 1) hC dX1_refusesPass_36 rfl ?_
        refine V_isub hC dX1_refusesPass_37 ?_
        refine V_cko (fun hm => V_callV_PI (c := 1) (As := [.int ((x1 + (2 * x3)) - 1)]) (rest := []) (d' := 1) hC dX1_refusesPass_38 1 (lw_V q731 q733 qs12 q85 q734) (by decide +kernel) (List.mem_singleton.mp hm) (by decide) (by decide) rfl rfl rfl (Nat.le_of_ble_eq_true rfl) (Nat.le_trans (by decide) hd) (by decide) vMP_l (fun _ h => c_X1_isMess (Nat.le_refl _) h) (fun r_3 => ?_))
        refine V_if_ne (tgt := 46) hC dX1_refusesPass_41 (by decide) ?_ ?_
        · refine V_aload_n hC dX1_refusesPass_46 rfl ?_
          refine g_X1_21 hC dX1_refusesPass_47 (fun b => ?_)
          refine g_X1_158 hC dX1_refusesPass_50 (fun b_1 => ?_)
          refine V_iload_n hC dX1_refusesPass_53 rfl ?_
          refine V_iald hC dX1_refusesPass_54 ?_
          refine V_iload_n hC dX1_refusesPass_55 rfl ?_
          refine V_icmp_ge (tgt := 62) hC dX1_refusesPass_56 (by decide) ?_ ?_
          · refine V_aload_n hC dX1_refusesPass_62 rfl ?_
            refine g_X1_21 hC dX1_refusesPass_63 (fun b_2 => ?_)
            refine g_X1_158 hC dX1_refusesPass_66 (fun b_3 => ?_)
            refine V_iload_n hC dX1_refusesPass_69 rfl ?_
            refine V_iconst (v := 2) hC dX1_refusesPass_70 rfl ?_
            refine V_iload_n hC dX1_refusesPass_71 rfl ?_
            refine V_imul hC dX1_refusesPass_72 ?_
            refine V_iadd hC dX1_refusesPass_73 ?_
            refine V_iconst (v := 1) hC dX1_refusesPass_74 rfl ?_
            refine V_isub hC dX1_refusesPass_75 ?_
            refine V_iald hC dX1_refusesPass_76 ?_
            refine V_iload_n hC dX1_refusesPass_77 rfl ?_
            refine V_iadd hC dX1_refusesPass_78 ?_
            refine V_bipush (v := 99) hC dX1_refusesPass_79 rfl ?_
            refine V_icmp_le (tgt := 89) hC dX1_refusesPass_81 (by decide) ?_ ?_
            · refine V_iconst (v := 0) hC dX1_refusesPass_89 rfl ?_
              exact V_ireturn dX1_refusesPass_90 rfl rfl
            · refine V_bipush (v := (-3)) hC dX1_refusesPass_84 rfl ?_
              refine V_goto (tgt := 90) hC dX1_refusesPass_86 (by decide) ?_
              exact V_ireturn dX1_refusesPass_90 rfl rfl
          · refine V_bipush (v := (-2)) hC dX1_refusesPass_59 rfl ?_
            exact V_ireturn dX1_refusesPass_61 rfl rfl
        · refine V_iconst (v := (-1)) hC dX1_refusesPass_44 rfl ?_
          exact V_ireturn dX1_refusesPass_45 rfl rfl
theorem c_X1_refusesPass {l : Launch} {d : Nat} (hd : 2 ≤ d) {σ : vMem} {a0 : Nat} {x1 : Int32} {x2 : Int32} {x3 : Int32} {r : Int32} (h : f_X1_refusesPass σ a0 x1 x2 x3 = some r) : vOk l yX1_refusesPass cX1_refusesPass 4 (some .int) d [.ref a0, .int x1, .int x2, .int x3] σ (.inl (((ePI σ)).1 r, ((ePI σ)).2 r)) := V_method (em := (ePI σ)) [some (.ref a0), some (.int x1), some (.int x2), some (.int x3)] (by decide +kernel) rfl (Nat.le_of_ble_eq_true rfl) (w_X1_refusesPass hd σ a0 x1 x2 x3) h
/-! NobodyBeenAft.passes(III)I -/
def f_X1_passes (σ : vMem) (a0 : Nat) (x1 : Int32) (x2 : Int32) (x3 : Int32) : Option (Int32 × vMem) := cko σ a0 [1] (dr (gr σ a0 0) (fun b => cko σ b [2] (dr (gr σ b 0) (fun b_1 => cka σ b_1 105 x1 (cka σ b_1 105 x1 (vl (si σ b_1 (Int32.toNatClampNeg x1) ((gi σ b_1 (Int32.toNatClampNeg x1)) - x2)) (fun σ_1 => cko σ_1 a0 [1] (dr (gr σ_1 a0 0) (fun b_2 => cko σ_1 b_2 [2] (dr (gr σ_1 b_2 0) (fun b_3 => cka σ_1 b_3 105 ((x1 + (2 * x3)) - 1) (cka σ_1 b_3 105 ((x1 + (2 * x3)) - 1) (vl (si σ_1 b_3 (Int32.toNatClampNeg ((x1 + (2 * x3)) - 1)) ((gi σ_1 b_3 (Int32.toNatClampNeg ((x1 + (2 * x3)) - 1))) + x2)) (fun σ_2 => cko σ_2 a0 [1] (dr (gr σ_2 a0 0) (fun b_4 => cko σ_2 b_4 [2] (dr (gr σ_2 b_4 0) (fun b_5 => cka σ_2 b_5 105 x1 (some ((gi σ_2 b_5 (Int32.toNatClampNeg x1)), σ_2))))))))))))))))))))
abbrev P_X1_passes (l : Launch) (d n0 s0 : Nat) : vX → Prop := vMP l yX1_passes cX1_passes 4 (some .int) d n0 s0
theorem w_X1_passes {l : Launch} {d n0 s0 : Nat} (hd : 0 ≤ d) (σ : vMem) (a0 : Nat) (x1 : Int32) (x2 : Int32) (x3 : Int32) : V (P_X1_passes l d n0 s0) (vEmb eI) σ 0 [some (.ref a0), some (.int x1), some (.int x2), some (.int x3)] [] (f_X1_passes σ a0 x1 x2 x3) := by
  have hC : vPx (P_X1_passes l d n0 s0) cX1_passes 4 "NobodyBeenAft" (some .int) d := vMP_cx
  refine V_eq (f_X1_passes.eq_1 ..) ?_
  refine V_aload_n hC dX1_passes_0 rfl ?_
  refine g_X1_21 hC dX1_passes_1 (fun b => ?_)
  refine g_X1_158 hC dX1_passes_4 (fun b_1 => ?_)
  refine V_iload_n hC dX1_passes_7 rfl ?_
  refine V_dup2 hC dX1_passes_8 rfl rfl ?_
  refine V_iald hC dX1_passes_9 ?_
  refine V_iload_n hC dX1_passes_10 rfl ?_
  refine V_isub hC dX1_passes_11 ?_
  refine V_iast hC dX1_passes_12 (fun σ_1 => ?_)
  refine V_aload_n hC dX1_passes_13 rfl ?_
  refine g_X1_21 hC dX1_passes_14 (fun b_2 => ?_)
  refine g_X1_158 hC dX1_passes_17 (fun b_3 => ?_)
  refine V_iload_n hC dX1_passes_20 rfl ?_
  refine V_iconst (v := 2) hC dX1_passes_21 rfl ?_
  refine V_iload_n hC dX1_passes_22 rfl ?_
  refine V_imul hC dX1_passes_23 ?_
  refine V_iadd hC dX1_passes_24 ?_
  refine V_iconst (v := 1) hC dX1_passes_25 rfl ?_
  refine V_isub hC dX1_passes_26 ?_
  refine V_dup2 hC dX1_passes_27 rfl rfl ?_
  refine V_iald hC dX1_passes_28 ?_
  refine V_iload_n hC dX1_passes_29 rfl ?_
  refine V_iadd hC dX1_passes_30 ?_
  refine V_iast hC dX1_passes_31 (fun σ_2 => ?_)
  refine V_aload_n hC dX1_passes_32 rfl ?_
  refine g_X1_21 hC dX1_passes_33 (fun b_4 => ?_)
  refine g_X1_158 hC dX1_passes_36 (fun b_5 => ?_)
  refine V_iload_n hC dX1_passes_39 rfl ?_
  refine V_iald hC dX1_passes_40 ?_
  exact V_ireturn dX1_passes_41 rfl rfl
theorem c_X1_passes {l : Launch} {d : Nat} (hd : 0 ≤ d) {σ : vMem} {a0 : Nat} {x1 : Int32} {x2 : Int32} {x3 : Int32} {r : Int32 × vMem} (h : f_X1_passes σ a0 x1 x2 x3 = some r) : vOk l yX1_passes cX1_passes 4 (some .int) d [.ref a0, .int x1, .int x2, .int x3] σ (.inl ((eI).1 r, (eI).2 r)) := V_method (em := eI) [some (.ref a0), some (.int x1), some (.int x2), some (.int x3)] (by decide +kernel) rfl (Nat.le_of_ble_eq_true rfl) (w_X1_passes hd σ a0 x1 x2 x3) h
/-! NobodyBeenAft.pass(III)I -/
def f_X1_pass (σ : vMem) (a0 : Nat) (x1 : Int32) (x2 : Int32) (x3 : Int32) : Option (Int32 × vMem) := cko σ a0 [1] (bp (f_X1_refusesPass σ a0 x1 x2 x3) (fun r => if 0 ≤ r then (cko σ a0 [1] (dr (gr σ a0 0) (fun b => cko σ a0 [1] (bv (f_X1_remember σ a0 b) (fun σ_1 => cko σ_1 a0 [1] (bd (f_X1_passes σ_1 a0 x1 x2 x3) (fun r_1 σ_2 => some (r_1, σ_2)))))))) else some (r, σ)))
abbrev P_X1_pass (l : Launch) (d n0 s0 : Nat) : vX → Prop := vMP l yX1_pass cX1_pass 5 (some .int) d n0 s0
theorem w_X1_pass {l : Launch} {d n0 s0 : Nat} (hd : 3 ≤ d) (σ : vMem) (a0 : Nat) (x1 : Int32) (x2 : Int32) (x3 : Int32) : V (P_X1_pass l d n0 s0) (vEmb eI) σ 0 [some (.ref a0), some (.int x1), some (.int x2), some (.int x3), none] [] (f_X1_pass σ a0 x1 x2 x3) := by
  have hC : vPx (P_X1_pass l d n0 s0) cX1_pass 5 "NobodyBeenAft" (some .int) d := vMP_cx
  refine V_eq (f_X1_pass.eq_1 ..) ?_
  refine V_aload_n hC dX1_pass_0 rfl ?_
  refine V_iload_n hC dX1_pass_1 rfl ?_
  refine V_iload_n hC dX1_pass_2 rfl ?_
  refine V_iload_n hC dX1_pass_3 rfl ?_
  refine V_cko (fun hm => V_callV_PI (c := 1) (As := [.int x1, .int x2, .int x3]) (rest := []) (d' := 2) hC dX1_pass_4 3 (lw_V q727 q729 qs11 q85 q730) (by decide +kernel) (List.mem_singleton.mp hm) (by decide) (by decide) rfl rfl rfl (Nat.le_of_ble_eq_true rfl) (Nat.le_trans (by decide) hd) (by decide) vMP_l (fun _ h => c_X1_refusesPass (Nat.le_refl _) h) (fun r => ?_))
  refine V_istore (ls' := [some (.ref a0), some (.int x1), some (.int x2), some (.int x3), some (.int r)]) hC dX1_pass_7 (by decide) rfl rfl ?_
  refine V_iload hC dX1_pass_9 rfl ?_
  refine V_if_ge (tgt := 17) hC dX1_pass_11 (by decide) ?_ ?_
  · refine V_aload_n hC dX1_pass_17 rfl ?_
    refine V_aload_n hC dX1_pass_18 rfl ?_
    refine g_X1_21 hC dX1_pass_19 (fun b => ?_)
    refine V_cko (fun hm => V_callV_V (c := 1) (As := [.ref b]) (rest := []) (d' := 1) hC dX1_pass_22 1 (lw_V q701 q703 qs8 q85 q704) (by decide +kernel) (List.mem_singleton.mp hm) (by decide) (by decide) rfl rfl rfl (Nat.le_of_ble_eq_true rfl) (Nat.le_trans (by decide) hd) (by decide) vMP_l (fun _ h => c_X1_remember (Nat.le_refl _) h) (fun σ_1 => ?_))
    refine V_aload_n hC dX1_pass_25 rfl ?_
    refine V_iload_n hC dX1_pass_26 rfl ?_
    refine V_iload_n hC dX1_pass_27 rfl ?_
    refine V_iload_n hC dX1_pass_28 rfl ?_
    refine V_cko (fun hm => V_callV_I (c := 1) (As := [.int x1, .int x2, .int x3]) (rest := []) (d' := 0) hC dX1_pass_29 3 (lw_V q736 q738 qs13 q85 q739) (by decide +kernel) (List.mem_singleton.mp hm) (by decide) (by decide) rfl rfl rfl (Nat.le_of_ble_eq_true rfl) (Nat.le_trans (by decide) hd) (by decide) vMP_l (fun _ h => c_X1_passes (Nat.le_refl _) h) (fun r_1 σ_2 => ?_))
    exact V_ireturn dX1_pass_32 rfl rfl
  · refine V_iload hC dX1_pass_14 rfl ?_
    exact V_ireturn dX1_pass_16 rfl rfl
theorem c_X1_pass {l : Launch} {d : Nat} (hd : 3 ≤ d) {σ : vMem} {a0 : Nat} {x1 : Int32} {x2 : Int32} {x3 : Int32} {r : Int32 × vMem} (h : f_X1_pass σ a0 x1 x2 x3 = some r) : vOk l yX1_pass cX1_pass 5 (some .int) d [.ref a0, .int x1, .int x2, .int x3] σ (.inl ((eI).1 r, (eI).2 r)) := V_method (em := eI) [some (.ref a0), some (.int x1), some (.int x2), some (.int x3), none] (by decide +kernel) rfl (Nat.le_of_ble_eq_true rfl) (w_X1_pass hd σ a0 x1 x2 x3) h
/-! NobodyBeenAft.cook(II)I -/
def f_X1_cook (σ : vMem) (a0 : Nat) (x1 : Int32) (x2 : Int32) : Option (Int32 × vMem) := cko σ a0 [1] (bp (f_X1_isMess σ a0 x1) (fun r => if r = 0 then (some ((-1), σ)) else bp (f_X1_in σ (Int32.toInt64 x2) 0 99) (fun r_1 => if ¬ r_1 = 0 then (cko σ a0 [1] (dr (gr σ a0 0) (fun b => cko σ a0 [1] (bv (f_X1_remember σ a0 b) (fun σ_1 => cko σ_1 a0 [1] (dr (gr σ_1 a0 0) (fun b_1 => cko σ_1 b_1 [2] (dr (gr σ_1 b_1 0) (fun b_2 => cka σ_1 b_2 105 x1 (vl (gi σ_1 b_2 (Int32.toNatClampNeg x1)) (fun v3 => cko σ_1 a0 [1] (dr (gr σ_1 a0 0) (fun b_3 => cko σ_1 b_3 [2] (dr (gr σ_1 b_3 0) (fun b_4 => cka σ_1 b_4 105 x1 (vl (si σ_1 b_4 (Int32.toNatClampNeg x1) x2) (fun σ_2 => some (v3, σ_2)))))))))))))))))) else some ((-1), σ))))
abbrev P_X1_cook (l : Launch) (d n0 s0 : Nat) : vX → Prop := vMP l yX1_cook cX1_cook 4 (some .int) d n0 s0
theorem w_X1_cook {l : Launch} {d n0 s0 : Nat} (hd : 2 ≤ d) (σ : vMem) (a0 : Nat) (x1 : Int32) (x2 : Int32) : V (P_X1_cook l d n0 s0) (vEmb eI) σ 0 [some (.ref a0), some (.int x1), some (.int x2), none] [] (f_X1_cook σ a0 x1 x2) := by
  have hC : vPx (P_X1_cook l d n0 s0) cX1_cook 4 "NobodyBeenAft" (some .int) d := vMP_cx
  refine V_eq (f_X1_cook.eq_1 ..) ?_
  refine V_aload_n hC dX1_cook_0 rfl ?_
  refine V_iload_n hC dX1_cook_1 rfl ?_
  refine V_cko (fun hm => V_callV_PI (c := 1) (As := [.int x1]) (rest := []) (d' := 1) hC dX1_cook_2 1 (lw_V q731 q733 qs12 q85 q734) (by decide +kernel) (List.mem_singleton.mp hm) (by decide) (by decide) rfl rfl rfl (Nat.le_of_ble_eq_true rfl) (Nat.le_trans (by decide) hd) (by decide) vMP_l (fun _ h => c_X1_isMess (Nat.le_refl _) h) (fun r => ?_))
  refine V_if_eq (tgt := 20) hC dX1_cook_5 (by decide) ?_ ?_
  · refine V_iconst (v := (-1)) hC dX1_cook_20 rfl ?_
    exact V_ireturn dX1_cook_21 rfl rfl
  · refine V_iload_n hC dX1_cook_8 rfl ?_
    refine V_i2l hC dX1_cook_9 ?_
    refine V_lconst (v := 0) hC dX1_cook_10 rfl ?_
    refine V_ldc2 hC dX1_cook_11 q735 ?_
    refine V_callS_PI (As := [.long (Int32.toInt64 x2), .long 0, .long 99]) (rest := []) (d' := 0) hC dX1_cook_14 3 (lw_S q285 q286 q85 q287) (by decide +kernel) rfl rfl (Nat.le_of_ble_eq_true rfl) (Nat.le_trans (by decide) hd) (by decide) vMP_l (fun _ h => c_X1_in (Nat.le_refl _) h) (fun r_1 => ?_)
    refine V_if_ne (tgt := 22) hC dX1_cook_17 (by decide) ?_ ?_
    · refine V_aload_n hC dX1_cook_22 rfl ?_
      refine V_aload_n hC dX1_cook_23 rfl ?_
      refine g_X1_21 hC dX1_cook_24 (fun b => ?_)
      refine V_cko (fun hm => V_callV_V (c := 1) (As := [.ref b]) (rest := []) (d' := 1) hC dX1_cook_27 1 (lw_V q701 q703 qs8 q85 q704) (by decide +kernel) (List.mem_singleton.mp hm) (by decide) (by decide) rfl rfl rfl (Nat.le_of_ble_eq_true rfl) (Nat.le_trans (by decide) hd) (by decide) vMP_l (fun _ h => c_X1_remember (Nat.le_refl _) h) (fun σ_1 => ?_))
      refine V_aload_n hC dX1_cook_30 rfl ?_
      refine g_X1_21 hC dX1_cook_31 (fun b_1 => ?_)
      refine g_X1_158 hC dX1_cook_34 (fun b_2 => ?_)
      refine V_iload_n hC dX1_cook_37 rfl ?_
      refine V_iald hC dX1_cook_38 ?_
      refine V_istore_nL (ls' := fun v3 => [some (.ref a0), some (.int x1), some (.int x2), some (.int v3)]) hC dX1_cook_39 (by decide) rfl (fun _ => rfl) (fun v3 => ?_)
      refine V_aload_n hC dX1_cook_40 rfl ?_
      refine g_X1_21 hC dX1_cook_41 (fun b_3 => ?_)
      refine g_X1_158 hC dX1_cook_44 (fun b_4 => ?_)
      refine V_iload_n hC dX1_cook_47 rfl ?_
      refine V_iload_n hC dX1_cook_48 rfl ?_
      refine V_iast hC dX1_cook_49 (fun σ_2 => ?_)
      refine V_iload_n hC dX1_cook_50 rfl ?_
      exact V_ireturn dX1_cook_51 rfl rfl
    · refine V_iconst (v := (-1)) hC dX1_cook_20 rfl ?_
      exact V_ireturn dX1_cook_21 rfl rfl
theorem c_X1_cook {l : Launch} {d : Nat} (hd : 2 ≤ d) {σ : vMem} {a0 : Nat} {x1 : Int32} {x2 : Int32} {r : Int32 × vMem} (h : f_X1_cook σ a0 x1 x2 = some r) : vOk l yX1_cook cX1_cook 4 (some .int) d [.ref a0, .int x1, .int x2] σ (.inl ((eI).1 r, (eI).2 r)) := V_method (em := eI) [some (.ref a0), some (.int x1), some (.int x2), none] (by decide +kernel) rfl (Nat.le_of_ble_eq_true rfl) (w_X1_cook hd σ a0 x1 x2) h
/-! NobodyBeenAft.clamp(I)I -/
def f_X1_clamp (σ : vMem) (x0 : Int32) : Option (Int32) := some (imax 0 (imin 8 x0))
abbrev P_X1_clamp (l : Launch) (d n0 s0 : Nat) : vX → Prop := vMP l yX1_clamp cX1_clamp 1 (some .int) d n0 s0
theorem w_X1_clamp {l : Launch} {d n0 s0 : Nat} (hd : 0 ≤ d) (σ : vMem) (x0 : Int32) : V (P_X1_clamp l d n0 s0) (vEmb (ePI σ)) σ 0 [some (.int x0)] [] (f_X1_clamp σ x0) := by
  have hC : vPx (P_X1_clamp l d n0 s0) cX1_clamp 1 "NobodyBeenAft" (some .int) d := vMP_cx
  refine V_eq (f_X1_clamp.eq_1 ..) ?_
  refine V_iconst (v := 0) hC dX1_clamp_0 rfl ?_
  refine V_bipush (v := 8) hC dX1_clamp_1 rfl ?_
  refine V_iload_n hC dX1_clamp_3 rfl ?_
  refine V_mmin hC dX1_clamp_4 q675 q327 q90 q328 (Nat.le_of_ble_eq_true rfl) ?_
  refine V_mmax hC dX1_clamp_7 q676 q677 q90 q678 (Nat.le_of_ble_eq_true rfl) ?_
  exact V_ireturn dX1_clamp_10 rfl rfl
theorem c_X1_clamp {l : Launch} {d : Nat} (hd : 0 ≤ d) {σ : vMem} {x0 : Int32} {r : Int32} (h : f_X1_clamp σ x0 = some r) : vOk l yX1_clamp cX1_clamp 1 (some .int) d [.int x0] σ (.inl (((ePI σ)).1 r, ((ePI σ)).2 r)) := V_method (em := (ePI σ)) [some (.int x0)] (by decide +kernel) rfl (Nat.le_of_ble_eq_true rfl) (w_X1_clamp hd σ x0) h
/-! NobodyBeenAft$Watch.steer()V -/
def f_X2_steer_2 (a0 : Nat) (k : vMem → Int32 → Option (vMem)) : Nat → vMem → Int32 → Option (vMem)
  | 0, _, _ => none
  | n + 1, σ_5, v1_1 => cko σ_5 a0 [2] (if (gi σ_5 a0 7) ≤ v1_1 then (k σ_5 v1_1) else cko σ_5 a0 [2] (dr (gr σ_5 a0 2) (fun b_4 => cka σ_5 b_4 105 v1_1 (cko σ_5 a0 [2] (if (gi σ_5 a0 4) < (gi σ_5 b_4 (Int32.toNatClampNeg v1_1)) then (k σ_5 v1_1) else cko σ_5 a0 [2] (cko σ_5 a0 [2] (dr (gr σ_5 a0 3) (fun b_5 => cka σ_5 b_5 105 v1_1 (bp (f_X1_clamp σ_5 ((gi σ_5 a0 5) + (gi σ_5 b_5 (Int32.toNatClampNeg v1_1)))) (fun r => cko σ_5 a0 [2] (vl (si σ_5 a0 5 r) (fun σ_6 => vl (v1_1 + 1) (fun v1_2 => f_X2_steer_2 a0 k n σ_6 v1_2)))))))))))))
def f_X2_steer (σ : vMem) (a0 : Nat) : Option (vMem) := vl (fun (σ_1 : vMem) (v1 : Int32) => cko σ_1 a0 [2] (dr (gr σ_1 a0 2) (fun b => cko σ_1 a0 [2] (dr (gr σ_1 a0 2) (fun b_1 => cko σ_1 a0 [2] (cpyI σ_1 b v1 b_1 0 ((gi σ_1 a0 7) - v1) (fun σ_2 => cko σ_2 a0 [2] (dr (gr σ_2 a0 3) (fun b_2 => cko σ_2 a0 [2] (dr (gr σ_2 a0 3) (fun b_3 => cko σ_2 a0 [2] (cpyI σ_2 b_2 v1 b_3 0 ((gi σ_2 a0 7) - v1) (fun σ_3 => cko σ_3 a0 [2] (cko σ_3 a0 [2] (vl (si σ_3 a0 7 ((gi σ_3 a0 7) - v1)) (fun σ_4 => some σ_4)))))))))))))))) (fun k => f_X2_steer_2 a0 k FU σ 0)
abbrev P_X2_steer (l : Launch) (d n0 s0 : Nat) : vX → Prop := vMP l yX2_steer cX2_steer 2 none d n0 s0
theorem w_X2_steer_2 {l : Launch} {d n0 s0 : Nat} (hd : 1 ≤ d) (a0 : Nat) (k : vMem → Int32 → Option (vMem)) (hk : ∀ (σ_1 : vMem), ∀ (v1 : Int32), V (P_X2_steer l d n0 s0) (vEmb eV) σ_1 47 [some (.ref a0), some (.int v1)] [] (k σ_1 v1)) : ∀ (n : Nat) (σ_5 : vMem) (v1_1 : Int32), V (P_X2_steer l d n0 s0) (vEmb eV) σ_5 2 [some (.ref a0), some (.int v1_1)] [] (f_X2_steer_2 a0 k n σ_5 v1_1) := by
  have hC : vPx (P_X2_steer l d n0 s0) cX2_steer 2 "NobodyBeenAft$Watch" none d := vMP_cx
  intro n
  induction n with
  | zero =>
    intro σ_5 v1_1
    exact V_none
  | succ n ih =>
    intro σ_5 v1_1
    refine V_eq (f_X2_steer_2.eq_2 ..) ?_
    refine V_iload_n hC dX2_steer_2 rfl ?_
    refine V_aload_n hC dX2_steer_3 rfl ?_
    refine g_X2_43 hC dX2_steer_4 ?_
    refine V_icmp_ge (tgt := 47) hC dX2_steer_7 (by decide) ?_ ?_
    · exact hk σ_5 v1_1
    · refine V_aload_n hC dX2_steer_10 rfl ?_
      refine g_X2_18 hC dX2_steer_11 (fun b_4 => ?_)
      refine V_iload_n hC dX2_steer_14 rfl ?_
      refine V_iald hC dX2_steer_15 ?_
      refine V_aload_n hC dX2_steer_16 rfl ?_
      refine g_X2_37 hC dX2_steer_17 ?_
      refine V_icmp_gt (tgt := 47) hC dX2_steer_20 (by decide) ?_ ?_
      · exact hk σ_5 v1_1
      · refine V_aload_n hC dX2_steer_23 rfl ?_
        refine V_aload_n hC dX2_steer_24 rfl ?_
        refine g_X2_24 hC dX2_steer_25 ?_
        refine V_aload_n hC dX2_steer_28 rfl ?_
        refine g_X2_21 hC dX2_steer_29 (fun b_5 => ?_)
        refine V_iload_n hC dX2_steer_32 rfl ?_
        refine V_iald hC dX2_steer_33 ?_
        refine V_iadd hC dX2_steer_34 ?_
        refine V_callSN_PI (As := [.int ((gi σ_5 a0 5) + (gi σ_5 b_5 (Int32.toNatClampNeg v1_1)))]) (rest := [.ref a0]) (d' := 0) hC dX2_steer_35 1 q763 q85 q761 q762 (by decide +kernel) rfl rfl (Nat.le_of_ble_eq_true rfl) (Nat.le_trans (by decide) hd) (by decide) vMP_l (fun _ h => c_X1_clamp (Nat.le_refl _) h) (fun r => ?_)
        refine p_X2_24 hC dX2_steer_38 (fun σ_6 => ?_)
        refine V_iincL (v := v1_1 + 1) (ls' := fun v1_2 => [some (.ref a0), some (.int v1_2)]) hC dX2_steer_41 rfl (by decide) rfl rfl (fun _ => rfl) (fun v1_2 => ?_)
        refine V_goto (tgt := 2) hC dX2_steer_44 (by decide) ?_
        exact ih σ_6 v1_2
theorem w_X2_steer {l : Launch} {d n0 s0 : Nat} (hd : 1 ≤ d) (σ : vMem) (a0 : Nat) : V (P_X2_steer l d n0 s0) (vEmb eV) σ 0 [some (.ref a0), none] [] (f_X2_steer σ a0) := by
  have hC : vPx (P_X2_steer l d n0 s0) cX2_steer 2 "NobodyBeenAft$Watch" none d := vMP_cx
  refine V_eq (f_X2_steer.eq_1 ..) ?_
  refine V_iconst (v := 0) hC dX2_steer_0 rfl ?_
  refine V_istore_n (ls' := [some (.ref a0), some (.int 0)]) hC dX2_steer_1 (by decide) rfl rfl ?_
  refine V_let (B := fun k => ∀ (σ_1 : vMem), ∀ (v1 : Int32), V (P_X2_steer l d n0 s0) (vEmb eV) σ_1 47 [some (.ref a0), some (.int v1)] [] (k σ_1 v1)) ?_ ?_
  · intro σ_1 v1
    refine V_aload_n hC dX2_steer_47 rfl ?_
    refine g_X2_18 hC dX2_steer_48 (fun b => ?_)
    refine V_iload_n hC dX2_steer_51 rfl ?_
    refine V_aload_n hC dX2_steer_52 rfl ?_
    refine g_X2_18 hC dX2_steer_53 (fun b_1 => ?_)
    refine V_iconst (v := 0) hC dX2_steer_56 rfl ?_
    refine V_aload_n hC dX2_steer_57 rfl ?_
    refine g_X2_43 hC dX2_steer_58 ?_
    refine V_iload_n hC dX2_steer_61 rfl ?_
    refine V_isub hC dX2_steer_62 ?_
    refine V_cpyI hC dX2_steer_63 q709 q470 q469 q94 (Nat.le_of_ble_eq_true rfl) (fun σ_2 => ?_)
    refine V_aload_n hC dX2_steer_66 rfl ?_
    refine g_X2_21 hC dX2_steer_67 (fun b_2 => ?_)
    refine V_iload_n hC dX2_steer_70 rfl ?_
    refine V_aload_n hC dX2_steer_71 rfl ?_
    refine g_X2_21 hC dX2_steer_72 (fun b_3 => ?_)
    refine V_iconst (v := 0) hC dX2_steer_75 rfl ?_
    refine V_aload_n hC dX2_steer_76 rfl ?_
    refine g_X2_43 hC dX2_steer_77 ?_
    refine V_iload_n hC dX2_steer_80 rfl ?_
    refine V_isub hC dX2_steer_81 ?_
    refine V_cpyI hC dX2_steer_82 q709 q470 q469 q94 (Nat.le_of_ble_eq_true rfl) (fun σ_3 => ?_)
    refine V_aload_n hC dX2_steer_85 rfl ?_
    refine V_dup hC dX2_steer_86 rfl ?_
    refine g_X2_43 hC dX2_steer_87 ?_
    refine V_iload_n hC dX2_steer_90 rfl ?_
    refine V_isub hC dX2_steer_91 ?_
    refine p_X2_43 hC dX2_steer_92 (fun σ_4 => ?_)
    exact V_return dX2_steer_95 rfl rfl
  · intro k hk
    exact (w_X2_steer_2 hd a0 k hk) FU σ 0
theorem c_X2_steer {l : Launch} {d : Nat} (hd : 1 ≤ d) {σ : vMem} {a0 : Nat} {r : vMem} (h : f_X2_steer σ a0 = some r) : vOk l yX2_steer cX2_steer 2 none d [.ref a0] σ (.inl ((eV).1 r, (eV).2 r)) := V_method (em := eV) [some (.ref a0), none] (by decide +kernel) rfl (Nat.le_of_ble_eq_true rfl) (w_X2_steer hd σ a0) h
/-! NobodyBeenAft.hitsAt(II)I -/
def f_X1_hitsAt_5 (σ : vMem) (a0 : Nat) (x1 : Int32) (x2 : Int32) : Nat → Int32 → Int32 → Option (Int32)
  | 0, _, _ => none
  | n + 1, v3, v4 => cko σ a0 [1] (if (gi σ a0 11) ≤ v4 then (some v3) else cko σ a0 [1] (dr (gr σ a0 5) (fun b => cka σ b 105 v4 (vl (fun (y : Int32) => vl (v3 + y) (fun v3_1 => vl (v4 + 1) (fun v4_1 => f_X1_hitsAt_5 σ a0 x1 x2 n v3_1 v4_1))) (fun k => vl (k 0) (fun k_1 => if ¬ (gi σ b (Int32.toNatClampNeg v4)) = x1 then k_1 else cko σ a0 [1] (dr (gr σ a0 6) (fun b_1 => cka σ b_1 105 v4 (if ¬ (gi σ b_1 (Int32.toNatClampNeg v4)) = x2 then k_1 else k 1)))))))))
def f_X1_hitsAt (σ : vMem) (a0 : Nat) (x1 : Int32) (x2 : Int32) : Option (Int32) := f_X1_hitsAt_5 σ a0 x1 x2 FU 0 0
abbrev P_X1_hitsAt (l : Launch) (d n0 s0 : Nat) : vX → Prop := vMP l yX1_hitsAt cX1_hitsAt 5 (some .int) d n0 s0
theorem w_X1_hitsAt_5 {l : Launch} {d n0 s0 : Nat} (hd : 0 ≤ d) (σ : vMem) (a0 : Nat) (x1 : Int32) (x2 : Int32)  : ∀ (n : Nat) (v3 : Int32) (v4 : Int32), V (P_X1_hitsAt l d n0 s0) (vEmb (ePI σ)) σ 5 [some (.ref a0), some (.int x1), some (.int x2), some (.int v3), some (.int v4)] [] (f_X1_hitsAt_5 σ a0 x1 x2 n v3 v4) := by
  have hC : vPx (P_X1_hitsAt l d n0 s0) cX1_hitsAt 5 "NobodyBeenAft" (some .int) d := vMP_cx
  intro n
  induction n with
  | zero =>
    intro v3 v4
    exact V_none
  | succ n ih =>
    intro v3 v4
    refine V_eq (f_X1_hitsAt_5.eq_2 ..) ?_
    refine V_iload hC dX1_hitsAt_5 rfl ?_
    refine V_aload_n hC dX1_hitsAt_7 rfl ?_
    refine g_X1_139 hC dX1_hitsAt_8 ?_
    refine V_icmp_ge (tgt := 50) hC dX1_hitsAt_11 (by decide) ?_ ?_
    · refine V_iload_n hC dX1_hitsAt_50 rfl ?_
      exact V_ireturn dX1_hitsAt_51 rfl rfl
    · refine V_iload_n hC dX1_hitsAt_14 rfl ?_
      refine V_aload_n hC dX1_hitsAt_15 rfl ?_
      refine g_X1_39 hC dX1_hitsAt_16 (fun b => ?_)
      refine V_iload hC dX1_hitsAt_19 rfl ?_
      refine V_iald hC dX1_hitsAt_21 ?_
      refine V_iload_n hC dX1_hitsAt_22 rfl ?_
      refine V_let (B := fun k => ∀ (y : Int32), V (P_X1_hitsAt l d n0 s0) (vEmb (ePI σ)) σ 42 [some (.ref a0), some (.int x1), some (.int x2), none, some (.int v4)] [.int y, .int v3] (k y)) ?_ ?_
      · intro y
        refine V_iadd hC dX1_hitsAt_42 ?_
        refine V_istore_nL (ls' := fun v3_1 => [some (.ref a0), some (.int x1), some (.int x2), some (.int v3_1), some (.int v4)]) hC dX1_hitsAt_43 (by decide) rfl (fun _ => rfl) (fun v3_1 => ?_)
        refine V_iincL (v := v4 + 1) (ls' := fun v4_1 => [some (.ref a0), some (.int x1), some (.int x2), some (.int v3_1), some (.int v4_1)]) hC dX1_hitsAt_44 rfl (by decide) rfl rfl (fun _ => rfl) (fun v4_1 => ?_)
        refine V_goto (tgt := 5) hC dX1_hitsAt_47 (by decide) ?_
        exact ih v3_1 v4_1
      · intro k hk
        refine V_let (B := fun k_1 => V (P_X1_hitsAt l d n0 s0) (vEmb (ePI σ)) σ 41 [some (.ref a0), some (.int x1), some (.int x2), none, some (.int v4)] [.int v3] (k_1)) ?_ ?_
        · skip
          refine V_iconst (v := 0) hC dX1_hitsAt_41 rfl ?_
          exact hk 0
        · intro k_1 hk_1
          refine V_icmp_ne (tgt := 41) hC dX1_hitsAt_23 (by decide) ?_ ?_
          · refine V_clr [3] (ls' := [some (.ref a0), some (.int x1), some (.int x2), none, some (.int v4)]) rfl ?_
            exact hk_1
          · refine V_aload_n hC dX1_hitsAt_26 rfl ?_
            refine g_X1_42 hC dX1_hitsAt_27 (fun b_1 => ?_)
            refine V_iload hC dX1_hitsAt_30 rfl ?_
            refine V_iald hC dX1_hitsAt_32 ?_
            refine V_iload_n hC dX1_hitsAt_33 rfl ?_
            refine V_icmp_ne (tgt := 41) hC dX1_hitsAt_34 (by decide) ?_ ?_
            · refine V_clr [3] (ls' := [some (.ref a0), some (.int x1), some (.int x2), none, some (.int v4)]) rfl ?_
              exact hk_1
            · refine V_iconst (v := 1) hC dX1_hitsAt_37 rfl ?_
              refine V_goto (tgt := 42) hC dX1_hitsAt_38 (by decide) ?_
              refine V_clr [3] (ls' := [some (.ref a0), some (.int x1), some (.int x2), none, some (.int v4)]) rfl ?_
              exact hk 1
theorem w_X1_hitsAt {l : Launch} {d n0 s0 : Nat} (hd : 0 ≤ d) (σ : vMem) (a0 : Nat) (x1 : Int32) (x2 : Int32) : V (P_X1_hitsAt l d n0 s0) (vEmb (ePI σ)) σ 0 [some (.ref a0), some (.int x1), some (.int x2), none, none] [] (f_X1_hitsAt σ a0 x1 x2) := by
  have hC : vPx (P_X1_hitsAt l d n0 s0) cX1_hitsAt 5 "NobodyBeenAft" (some .int) d := vMP_cx
  refine V_eq (f_X1_hitsAt.eq_1 ..) ?_
  refine V_iconst (v := 0) hC dX1_hitsAt_0 rfl ?_
  refine V_istore_n (ls' := [some (.ref a0), some (.int x1), some (.int x2), some (.int 0), none]) hC dX1_hitsAt_1 (by decide) rfl rfl ?_
  refine V_iconst (v := 0) hC dX1_hitsAt_2 rfl ?_
  refine V_istore (ls' := [some (.ref a0), some (.int x1), some (.int x2), some (.int 0), some (.int 0)]) hC dX1_hitsAt_3 (by decide) rfl rfl ?_
  exact (w_X1_hitsAt_5 hd σ a0 x1 x2) FU 0 0
theorem c_X1_hitsAt {l : Launch} {d : Nat} (hd : 0 ≤ d) {σ : vMem} {a0 : Nat} {x1 : Int32} {x2 : Int32} {r : Int32} (h : f_X1_hitsAt σ a0 x1 x2 = some r) : vOk l yX1_hitsAt cX1_hitsAt 5 (some .int) d [.ref a0, .int x1, .int x2] σ (.inl (((ePI σ)).1 r, ((ePI σ)).2 r)) := V_method (em := (ePI σ)) [some (.ref a0), some (.int x1), some (.int x2), none, none] (by decide +kernel) rfl (Nat.le_of_ble_eq_true rfl) (w_X1_hitsAt hd σ a0 x1 x2) h
/-! NobodyBeenAft.goStep(LNobodyBeenAft$Watch;)V -/
def f_X1_goStep_37 (a0 : Nat) (a1 : Nat) : Nat → vMem → Int32 → Option (vMem)
  | 0, _, _ => none
  | n + 1, σ_4, v2 => cko σ_4 a0 [1] (if (gi σ_4 a0 12) ≤ v2 then (some σ_4) else cko σ_4 a1 [2] (dr (gr σ_4 a1 0) (fun b => cka σ_4 b 105 v2 (cko σ_4 a0 [1] (dr (gr σ_4 a0 7) (fun b_1 => cka σ_4 b_1 105 v2 (vl (fun (y : Int32) => cko σ_4 a1 [2] (dr (gr σ_4 a1 0) (fun b_2 => vl (fun (y_1 : Int32) => cka σ_4 b_2 105 v2 (vl (si σ_4 b_2 (Int32.toNatClampNeg v2) y_1) (fun σ_5 => cko σ_5 a1 [2] (dr (gr σ_5 a1 1) (fun b_3 => cka σ_5 b_3 105 v2 (vl (fun (y_2 : Int32) => cka σ_5 b_3 105 v2 (vl (si σ_5 b_3 (Int32.toNatClampNeg v2) ((gi σ_5 b_3 (Int32.toNatClampNeg v2)) + y_2)) (fun σ_6 => cko σ_6 a0 [1] (vl (fun (y_3 : Int32) => cko σ_6 a0 [1] (vl (si σ_6 a0 20 ((gi σ_6 a0 20) + y_3)) (fun σ_7 => vl (v2 + 1) (fun v2_1 => f_X1_goStep_37 a0 a1 n σ_7 v2_1)))) (fun k_3 => if y = 0 then (k_3 1) else k_3 0))))) (fun k_2 => if y = 0 then (k_2 1) else k_2 0))))))) (fun k_1 => if y = 0 then (k_1 0) else cko σ_4 a1 [2] (dr (gr σ_4 a1 0) (fun b_4 => cka σ_4 b_4 105 v2 (cko σ_4 a0 [1] (dr (gr σ_4 a0 7) (fun b_5 => cka σ_4 b_5 105 v2 (k_1 ((gi σ_4 b_4 (Int32.toNatClampNeg v2)) - (gi σ_4 b_5 (Int32.toNatClampNeg v2))))))))))))) (fun k => if (gi σ_4 b (Int32.toNatClampNeg v2)) < (gi σ_4 b_1 (Int32.toNatClampNeg v2)) then (k 0) else k 1))))))))
def f_X1_goStep (σ : vMem) (a0 : Nat) (a1 : Nat) : Option (vMem) := cko σ a1 [2] (cko σ a1 [2] (vl (si σ a1 4 ((gi σ a1 4) + 1)) (fun σ_1 => cko σ_1 a1 [2] (bv (f_X2_steer σ_1 a1) (fun σ_2 => cko σ_2 a1 [2] (cko σ_2 a1 [2] (cko σ_2 a1 [2] (cko σ_2 a0 [1] (bp (f_X1_hitsAt σ_2 a0 (gi σ_2 a1 4) (gi σ_2 a1 5)) (fun r => cko σ_2 a1 [2] (vl (si σ_2 a1 6 ((gi σ_2 a1 6) + r)) (fun σ_3 => f_X1_goStep_37 a0 a1 FU σ_3 0))))))))))))
abbrev P_X1_goStep (l : Launch) (d n0 s0 : Nat) : vX → Prop := vMP l yX1_goStep cX1_goStep 4 none d n0 s0
theorem w_X1_goStep_37 {l : Launch} {d n0 s0 : Nat} (hd : 2 ≤ d) (a0 : Nat) (a1 : Nat)  : ∀ (n : Nat) (σ_4 : vMem) (v2 : Int32), V (P_X1_goStep l d n0 s0) (vEmb eV) σ_4 37 [some (.ref a0), some (.ref a1), some (.int v2), none] [] (f_X1_goStep_37 a0 a1 n σ_4 v2) := by
  have hC : vPx (P_X1_goStep l d n0 s0) cX1_goStep 4 "NobodyBeenAft" none d := vMP_cx
  intro n
  induction n with
  | zero =>
    intro σ_4 v2
    exact V_none
  | succ n ih =>
    intro σ_4 v2
    refine V_eq (f_X1_goStep_37.eq_2 ..) ?_
    refine V_iload_n hC dX1_goStep_37 rfl ?_
    refine V_aload_n hC dX1_goStep_38 rfl ?_
    refine g_X1_87 hC dX1_goStep_39 ?_
    refine V_icmp_ge (tgt := 135) hC dX1_goStep_42 (by decide) ?_ ?_
    · exact V_return dX1_goStep_135 rfl rfl
    · refine V_aload_n hC dX1_goStep_45 rfl ?_
      refine g_X1_158 hC dX1_goStep_46 (fun b => ?_)
      refine V_iload_n hC dX1_goStep_49 rfl ?_
      refine V_iald hC dX1_goStep_50 ?_
      refine V_aload_n hC dX1_goStep_51 rfl ?_
      refine g_X1_45 hC dX1_goStep_52 (fun b_1 => ?_)
      refine V_iload_n hC dX1_goStep_55 rfl ?_
      refine V_iald hC dX1_goStep_56 ?_
      refine V_let (B := fun k => ∀ (y : Int32), V (P_X1_goStep l d n0 s0) (vEmb eV) σ_4 65 [some (.ref a0), some (.ref a1), some (.int v2), none] [.int y] (k y)) ?_ ?_
      · intro y
        refine V_istore_n (ls' := [some (.ref a0), some (.ref a1), some (.int v2), some (.int y)]) hC dX1_goStep_65 (by decide) rfl rfl ?_
        refine V_aload_n hC dX1_goStep_66 rfl ?_
        refine g_X1_158 hC dX1_goStep_67 (fun b_2 => ?_)
        refine V_iload_n hC dX1_goStep_70 rfl ?_
        refine V_iload_n hC dX1_goStep_71 rfl ?_
        refine V_let (B := fun k_1 => ∀ (y_1 : Int32), V (P_X1_goStep l d n0 s0) (vEmb eV) σ_4 92 [some (.ref a0), some (.ref a1), some (.int v2), some (.int y)] [.int y_1, .int v2, .ref b_2] (k_1 y_1)) ?_ ?_
        · intro y_1
          refine V_iast hC dX1_goStep_92 (fun σ_5 => ?_)
          refine V_aload_n hC dX1_goStep_93 rfl ?_
          refine g_X1_161 hC dX1_goStep_94 (fun b_3 => ?_)
          refine V_iload_n hC dX1_goStep_97 rfl ?_
          refine V_dup2 hC dX1_goStep_98 rfl rfl ?_
          refine V_iald hC dX1_goStep_99 ?_
          refine V_iload_n hC dX1_goStep_100 rfl ?_
          refine V_let (B := fun k_2 => ∀ (y_2 : Int32), V (P_X1_goStep l d n0 s0) (vEmb eV) σ_5 109 [some (.ref a0), some (.ref a1), some (.int v2), some (.int y)] [.int y_2, .int (gi σ_5 b_3 (Int32.toNatClampNeg v2)), .int v2, .ref b_3] (k_2 y_2)) ?_ ?_
          · intro y_2
            refine V_iadd hC dX1_goStep_109 ?_
            refine V_iast hC dX1_goStep_110 (fun σ_6 => ?_)
            refine V_aload_n hC dX1_goStep_111 rfl ?_
            refine V_dup hC dX1_goStep_112 rfl ?_
            refine g_X1_286 hC dX1_goStep_113 ?_
            refine V_iload_n hC dX1_goStep_116 rfl ?_
            refine V_let (B := fun k_3 => ∀ (y_3 : Int32), V (P_X1_goStep l d n0 s0) (vEmb eV) σ_6 125 [some (.ref a0), some (.ref a1), some (.int v2), none] [.int y_3, .int (gi σ_6 a0 20), .ref a0] (k_3 y_3)) ?_ ?_
            · intro y_3
              refine V_iadd hC dX1_goStep_125 ?_
              refine p_X1_286 hC dX1_goStep_126 (fun σ_7 => ?_)
              refine V_iincL (v := v2 + 1) (ls' := fun v2_1 => [some (.ref a0), some (.ref a1), some (.int v2_1), none]) hC dX1_goStep_129 rfl (by decide) rfl rfl (fun _ => rfl) (fun v2_1 => ?_)
              refine V_goto (tgt := 37) hC dX1_goStep_132 (by decide) ?_
              exact ih σ_7 v2_1
            · intro k_3 hk_3
              refine V_if_eq (tgt := 124) hC dX1_goStep_117 (by decide) ?_ ?_
              · refine V_iconst (v := 1) hC dX1_goStep_124 rfl ?_
                refine V_clr [3] (ls' := [some (.ref a0), some (.ref a1), some (.int v2), none]) rfl ?_
                exact hk_3 1
              · refine V_iconst (v := 0) hC dX1_goStep_120 rfl ?_
                refine V_goto (tgt := 125) hC dX1_goStep_121 (by decide) ?_
                refine V_clr [3] (ls' := [some (.ref a0), some (.ref a1), some (.int v2), none]) rfl ?_
                exact hk_3 0
          · intro k_2 hk_2
            refine V_if_eq (tgt := 108) hC dX1_goStep_101 (by decide) ?_ ?_
            · refine V_iconst (v := 1) hC dX1_goStep_108 rfl ?_
              exact hk_2 1
            · refine V_iconst (v := 0) hC dX1_goStep_104 rfl ?_
              refine V_goto (tgt := 109) hC dX1_goStep_105 (by decide) ?_
              exact hk_2 0
        · intro k_1 hk_1
          refine V_if_eq (tgt := 91) hC dX1_goStep_72 (by decide) ?_ ?_
          · refine V_iconst (v := 0) hC dX1_goStep_91 rfl ?_
            exact hk_1 0
          · refine V_aload_n hC dX1_goStep_75 rfl ?_
            refine g_X1_158 hC dX1_goStep_76 (fun b_4 => ?_)
            refine V_iload_n hC dX1_goStep_79 rfl ?_
            refine V_iald hC dX1_goStep_80 ?_
            refine V_aload_n hC dX1_goStep_81 rfl ?_
            refine g_X1_45 hC dX1_goStep_82 (fun b_5 => ?_)
            refine V_iload_n hC dX1_goStep_85 rfl ?_
            refine V_iald hC dX1_goStep_86 ?_
            refine V_isub hC dX1_goStep_87 ?_
            refine V_goto (tgt := 92) hC dX1_goStep_88 (by decide) ?_
            exact hk_1 ((gi σ_4 b_4 (Int32.toNatClampNeg v2)) - (gi σ_4 b_5 (Int32.toNatClampNeg v2)))
      · intro k hk
        refine V_icmp_lt (tgt := 64) hC dX1_goStep_57 (by decide) ?_ ?_
        · refine V_iconst (v := 0) hC dX1_goStep_64 rfl ?_
          exact hk 0
        · refine V_iconst (v := 1) hC dX1_goStep_60 rfl ?_
          refine V_goto (tgt := 65) hC dX1_goStep_61 (by decide) ?_
          exact hk 1
theorem w_X1_goStep {l : Launch} {d n0 s0 : Nat} (hd : 2 ≤ d) (σ : vMem) (a0 : Nat) (a1 : Nat) : V (P_X1_goStep l d n0 s0) (vEmb eV) σ 0 [some (.ref a0), some (.ref a1), none, none] [] (f_X1_goStep σ a0 a1) := by
  have hC : vPx (P_X1_goStep l d n0 s0) cX1_goStep 4 "NobodyBeenAft" none d := vMP_cx
  refine V_eq (f_X1_goStep.eq_1 ..) ?_
  refine V_aload_n hC dX1_goStep_0 rfl ?_
  refine V_dup hC dX1_goStep_1 rfl ?_
  refine g_X1_215 hC dX1_goStep_2 ?_
  refine V_iconst (v := 1) hC dX1_goStep_5 rfl ?_
  refine V_iadd hC dX1_goStep_6 ?_
  refine p_X1_215 hC dX1_goStep_7 (fun σ_1 => ?_)
  refine V_aload_n hC dX1_goStep_10 rfl ?_
  refine V_cko (fun hm => V_callV_V (c := 2) (As := []) (rest := []) (d' := 1) hC dX1_goStep_11 0 (lw_V q757 q758 q759 q86 q760) (by decide +kernel) (List.mem_singleton.mp hm) (by decide) (by decide) rfl rfl rfl (Nat.le_of_ble_eq_true rfl) (Nat.le_trans (by decide) hd) (by decide) vMP_l (fun _ h => c_X2_steer (Nat.le_refl _) h) (fun σ_2 => ?_))
  refine V_aload_n hC dX1_goStep_14 rfl ?_
  refine V_dup hC dX1_goStep_15 rfl ?_
  refine g_X1_277 hC dX1_goStep_16 ?_
  refine V_aload_n hC dX1_goStep_19 rfl ?_
  refine V_aload_n hC dX1_goStep_20 rfl ?_
  refine g_X1_215 hC dX1_goStep_21 ?_
  refine V_aload_n hC dX1_goStep_24 rfl ?_
  refine g_X1_280 hC dX1_goStep_25 ?_
  refine V_cko (fun hm => V_callV_PI (c := 1) (As := [.int (gi σ_2 a1 4), .int (gi σ_2 a1 5)]) (rest := [.int (gi σ_2 a1 6), .ref a1]) (d' := 0) hC dX1_goStep_28 2 (lw_V q764 q766 qs16 q85 q767) (by decide +kernel) (List.mem_singleton.mp hm) (by decide) (by decide) rfl rfl rfl (Nat.le_of_ble_eq_true rfl) (Nat.le_trans (by decide) hd) (by decide) vMP_l (fun _ h => c_X1_hitsAt (Nat.le_refl _) h) (fun r => ?_))
  refine V_iadd hC dX1_goStep_31 ?_
  refine p_X1_277 hC dX1_goStep_32 (fun σ_3 => ?_)
  refine V_iconst (v := 0) hC dX1_goStep_35 rfl ?_
  refine V_istore_n (ls' := [some (.ref a0), some (.ref a1), some (.int 0), none]) hC dX1_goStep_36 (by decide) rfl rfl ?_
  exact (w_X1_goStep_37 hd a0 a1) FU σ_3 0
theorem c_X1_goStep {l : Launch} {d : Nat} (hd : 2 ≤ d) {σ : vMem} {a0 : Nat} {a1 : Nat} {r : vMem} (h : f_X1_goStep σ a0 a1 = some r) : vOk l yX1_goStep cX1_goStep 4 none d [.ref a0, .ref a1] σ (.inl ((eV).1 r, (eV).2 r)) := V_method (em := eV) [some (.ref a0), some (.ref a1), none, none] (by decide +kernel) rfl (Nat.le_of_ble_eq_true rfl) (w_X1_goStep hd σ a0 a1) h
/-! NobodyBeenAft.goSteps(LNobodyBeenAft$Watch;I)V -/
def f_X1_goSteps_2 (a0 : Nat) (a1 : Nat) (x2 : Int32) : Nat → vMem → Int32 → Option (vMem)
  | 0, _, _ => none
  | n + 1, σ_1, v3 => if x2 ≤ v3 then (some σ_1) else cko σ_1 a0 [1] (bv (f_X1_goStep σ_1 a0 a1) (fun σ_2 => vl (v3 + 1) (fun v3_1 => f_X1_goSteps_2 a0 a1 x2 n σ_2 v3_1)))
def f_X1_goSteps (σ : vMem) (a0 : Nat) (a1 : Nat) (x2 : Int32) : Option (vMem) := f_X1_goSteps_2 a0 a1 x2 FU σ 0
abbrev P_X1_goSteps (l : Launch) (d n0 s0 : Nat) : vX → Prop := vMP l yX1_goSteps cX1_goSteps 4 none d n0 s0
theorem w_X1_goSteps_2 {l : Launch} {d n0 s0 : Nat} (hd : 3 ≤ d) (a0 : Nat) (a1 : Nat) (x2 : Int32)  : ∀ (n : Nat) (σ_1 : vMem) (v3 : Int32), V (P_X1_goSteps l d n0 s0) (vEmb eV) σ_1 2 [some (.ref a0), some (.ref a1), some (.int x2), some (.int v3)] [] (f_X1_goSteps_2 a0 a1 x2 n σ_1 v3) := by
  have hC : vPx (P_X1_goSteps l d n0 s0) cX1_goSteps 4 "NobodyBeenAft" none d := vMP_cx
  intro n
  induction n with
  | zero =>
    intro σ_1 v3
    exact V_none
  | succ n ih =>
    intro σ_1 v3
    refine V_eq (f_X1_goSteps_2.eq_2 ..) ?_
    refine V_iload_n hC dX1_goSteps_2 rfl ?_
    refine V_iload_n hC dX1_goSteps_3 rfl ?_
    refine V_icmp_ge (tgt := 18) hC dX1_goSteps_4 (by decide) ?_ ?_
    · exact V_return dX1_goSteps_18 rfl rfl
    · refine V_aload_n hC dX1_goSteps_7 rfl ?_
      refine V_aload_n hC dX1_goSteps_8 rfl ?_
      refine V_cko (fun hm => V_callV_V (c := 1) (As := [.ref a1]) (rest := []) (d' := 2) hC dX1_goSteps_9 1 (lw_V q753 q755 qs15 q85 q756) (by decide +kernel) (List.mem_singleton.mp hm) (by decide) (by decide) rfl rfl rfl (Nat.le_of_ble_eq_true rfl) (Nat.le_trans (by decide) hd) (by decide) vMP_l (fun _ h => c_X1_goStep (Nat.le_refl _) h) (fun σ_2 => ?_))
      refine V_iincL (v := v3 + 1) (ls' := fun v3_1 => [some (.ref a0), some (.ref a1), some (.int x2), some (.int v3_1)]) hC dX1_goSteps_12 rfl (by decide) rfl rfl (fun _ => rfl) (fun v3_1 => ?_)
      refine V_goto (tgt := 2) hC dX1_goSteps_15 (by decide) ?_
      exact ih σ_2 v3_1
theorem w_X1_goSteps {l : Launch} {d n0 s0 : Nat} (hd : 3 ≤ d) (σ : vMem) (a0 : Nat) (a1 : Nat) (x2 : Int32) : V (P_X1_goSteps l d n0 s0) (vEmb eV) σ 0 [some (.ref a0), some (.ref a1), some (.int x2), none] [] (f_X1_goSteps σ a0 a1 x2) := by
  have hC : vPx (P_X1_goSteps l d n0 s0) cX1_goSteps 4 "NobodyBeenAft" none d := vMP_cx
  refine V_eq (f_X1_goSteps.eq_1 ..) ?_
  refine V_iconst (v := 0) hC dX1_goSteps_0 rfl ?_
  refine V_istore_n (ls' := [some (.ref a0), some (.ref a1), some (.int x2), some (.int 0)]) hC dX1_goSteps_1 (by decide) rfl rfl ?_
  exact (w_X1_goSteps_2 hd a0 a1 x2) FU σ 0
theorem c_X1_goSteps {l : Launch} {d : Nat} (hd : 3 ≤ d) {σ : vMem} {a0 : Nat} {a1 : Nat} {x2 : Int32} {r : vMem} (h : f_X1_goSteps σ a0 a1 x2 = some r) : vOk l yX1_goSteps cX1_goSteps 4 none d [.ref a0, .ref a1, .int x2] σ (.inl ((eV).1 r, (eV).2 r)) := V_method (em := eV) [some (.ref a0), some (.ref a1), some (.int x2), none] (by decide +kernel) rfl (Nat.le_of_ble_eq_true rfl) (w_X1_goSteps hd σ a0 a1 x2) h
/-! NobodyBeenAft.tell(J)V -/
def f_X1_tell (σ : vMem) (a0 : Nat) (x1 : Int64) : Option (vMem) := cko σ a0 [1] (dr (gr σ a0 17) (fun b => cko σ a0 [1] (cka σ b 106 (gi σ a0 18) (vl (sl σ b (Int32.toNatClampNeg (gi σ a0 18)) x1) (fun σ_1 => cko σ_1 a0 [1] (cko σ_1 a0 [1] (vl (si σ_1 a0 18 ((gi σ_1 a0 18) + 1)) (fun σ_2 => some σ_2))))))))
abbrev P_X1_tell (l : Launch) (d n0 s0 : Nat) : vX → Prop := vMP l yX1_tell cX1_tell 3 none d n0 s0
theorem w_X1_tell {l : Launch} {d n0 s0 : Nat} (hd : 0 ≤ d) (σ : vMem) (a0 : Nat) (x1 : Int64) : V (P_X1_tell l d n0 s0) (vEmb eV) σ 0 [some (.ref a0), some (.long x1), none] [] (f_X1_tell σ a0 x1) := by
  have hC : vPx (P_X1_tell l d n0 s0) cX1_tell 3 "NobodyBeenAft" none d := vMP_cx
  refine V_eq (f_X1_tell.eq_1 ..) ?_
  refine V_aload_n hC dX1_tell_0 rfl ?_
  refine g_X1_56 hC dX1_tell_1 (fun b => ?_)
  refine V_aload_n hC dX1_tell_4 rfl ?_
  refine g_X1_84 hC dX1_tell_5 ?_
  refine V_lload_n hC dX1_tell_8 rfl ?_
  refine V_last hC dX1_tell_9 (fun σ_1 => ?_)
  refine V_aload_n hC dX1_tell_10 rfl ?_
  refine V_dup hC dX1_tell_11 rfl ?_
  refine g_X1_84 hC dX1_tell_12 ?_
  refine V_iconst (v := 1) hC dX1_tell_15 rfl ?_
  refine V_iadd hC dX1_tell_16 ?_
  refine p_X1_84 hC dX1_tell_17 (fun σ_2 => ?_)
  exact V_return dX1_tell_20 rfl rfl
theorem c_X1_tell {l : Launch} {d : Nat} (hd : 0 ≤ d) {σ : vMem} {a0 : Nat} {x1 : Int64} {r : vMem} (h : f_X1_tell σ a0 x1 = some r) : vOk l yX1_tell cX1_tell 3 none d [.ref a0, .long x1] σ (.inl ((eV).1 r, (eV).2 r)) := V_method (em := eV) [some (.ref a0), some (.long x1), none] (by decide +kernel) rfl (Nat.le_of_ble_eq_true rfl) (w_X1_tell hd σ a0 x1) h
/-! NobodyBeenAft.steps(I)I -/
def f_X1_steps (σ : vMem) (a0 : Nat) (x1 : Int32) : Option (Int32 × vMem) := bp (f_X1_in σ (Int32.toInt64 x1) 0 60) (fun r => if ¬ r = 0 then (cko σ a0 [1] (dr (gr σ a0 0) (fun b => cko σ a0 [1] (bv (f_X1_remember σ a0 b) (fun σ_1 => cko σ_1 a0 [1] (dr (gr σ_1 a0 0) (fun b_1 => cko σ_1 b_1 [2] (vl (gi σ_1 b_1 6) (fun v2 => cko σ_1 a0 [1] (vl (si σ_1 a0 20 0) (fun σ_2 => cko σ_2 a0 [1] (dr (gr σ_2 a0 0) (fun b_2 => cko σ_2 a0 [1] (bv (f_X1_goSteps σ_2 a0 b_2 x1) (fun σ_3 => cko σ_3 a0 [1] (vl (si σ_3 a0 18 0) (fun σ_4 => cko σ_4 a0 [1] (dr (gr σ_4 a0 0) (fun b_3 => cko σ_4 b_3 [2] (cko σ_4 a0 [1] (bv (f_X1_tell σ_4 a0 (Int32.toInt64 ((gi σ_4 b_3 6) - v2))) (fun σ_5 => cko σ_5 a0 [1] (cko σ_5 a0 [1] (bv (f_X1_tell σ_5 a0 (Int32.toInt64 (gi σ_5 a0 20))) (fun σ_6 => cko σ_6 a0 [1] (dr (gr σ_6 a0 0) (fun b_4 => cko σ_6 b_4 [2] (some ((gi σ_6 b_4 5), σ_6))))))))))))))))))))))))))))) else some ((-1), σ))
abbrev P_X1_steps (l : Launch) (d n0 s0 : Nat) : vX → Prop := vMP l yX1_steps cX1_steps 3 (some .int) d n0 s0
theorem w_X1_steps {l : Launch} {d n0 s0 : Nat} (hd : 4 ≤ d) (σ : vMem) (a0 : Nat) (x1 : Int32) : V (P_X1_steps l d n0 s0) (vEmb eI) σ 0 [some (.ref a0), some (.int x1), none] [] (f_X1_steps σ a0 x1) := by
  have hC : vPx (P_X1_steps l d n0 s0) cX1_steps 3 "NobodyBeenAft" (some .int) d := vMP_cx
  refine V_eq (f_X1_steps.eq_1 ..) ?_
  refine V_iload_n hC dX1_steps_0 rfl ?_
  refine V_i2l hC dX1_steps_1 ?_
  refine V_lconst (v := 0) hC dX1_steps_2 rfl ?_
  refine V_ldc2 hC dX1_steps_3 q748 ?_
  refine V_callS_PI (As := [.long (Int32.toInt64 x1), .long 0, .long 60]) (rest := []) (d' := 0) hC dX1_steps_6 3 (lw_S q285 q286 q85 q287) (by decide +kernel) rfl rfl (Nat.le_of_ble_eq_true rfl) (Nat.le_trans (by decide) hd) (by decide) vMP_l (fun _ h => c_X1_in (Nat.le_refl _) h) (fun r => ?_)
  refine V_if_ne (tgt := 14) hC dX1_steps_9 (by decide) ?_ ?_
  · refine V_aload_n hC dX1_steps_14 rfl ?_
    refine V_aload_n hC dX1_steps_15 rfl ?_
    refine g_X1_21 hC dX1_steps_16 (fun b => ?_)
    refine V_cko (fun hm => V_callV_V (c := 1) (As := [.ref b]) (rest := []) (d' := 1) hC dX1_steps_19 1 (lw_V q701 q703 qs8 q85 q704) (by decide +kernel) (List.mem_singleton.mp hm) (by decide) (by decide) rfl rfl rfl (Nat.le_of_ble_eq_true rfl) (Nat.le_trans (by decide) hd) (by decide) vMP_l (fun _ h => c_X1_remember (Nat.le_refl _) h) (fun σ_1 => ?_))
    refine V_aload_n hC dX1_steps_22 rfl ?_
    refine g_X1_21 hC dX1_steps_23 (fun b_1 => ?_)
    refine g_X1_277 hC dX1_steps_26 ?_
    refine V_istore_nL (ls' := fun v2 => [some (.ref a0), some (.int x1), some (.int v2)]) hC dX1_steps_29 (by decide) rfl (fun _ => rfl) (fun v2 => ?_)
    refine V_aload_n hC dX1_steps_30 rfl ?_
    refine V_iconst (v := 0) hC dX1_steps_31 rfl ?_
    refine p_X1_286 hC dX1_steps_32 (fun σ_2 => ?_)
    refine V_aload_n hC dX1_steps_35 rfl ?_
    refine V_aload_n hC dX1_steps_36 rfl ?_
    refine g_X1_21 hC dX1_steps_37 (fun b_2 => ?_)
    refine V_iload_n hC dX1_steps_40 rfl ?_
    refine V_cko (fun hm => V_callV_V (c := 1) (As := [.ref b_2, .int x1]) (rest := []) (d' := 3) hC dX1_steps_41 2 (lw_V q749 q751 qs14 q85 q752) (by decide +kernel) (List.mem_singleton.mp hm) (by decide) (by decide) rfl rfl rfl (Nat.le_of_ble_eq_true rfl) (Nat.le_trans (by decide) hd) (by decide) vMP_l (fun _ h => c_X1_goSteps (Nat.le_refl _) h) (fun σ_3 => ?_))
    refine V_aload_n hC dX1_steps_44 rfl ?_
    refine V_iconst (v := 0) hC dX1_steps_45 rfl ?_
    refine p_X1_84 hC dX1_steps_46 (fun σ_4 => ?_)
    refine V_aload_n hC dX1_steps_49 rfl ?_
    refine V_aload_n hC dX1_steps_50 rfl ?_
    refine g_X1_21 hC dX1_steps_51 (fun b_3 => ?_)
    refine g_X1_277 hC dX1_steps_54 ?_
    refine V_iload_n hC dX1_steps_57 rfl ?_
    refine V_isub hC dX1_steps_58 ?_
    refine V_i2l hC dX1_steps_59 ?_
    refine V_cko (fun hm => V_callV_V (c := 1) (As := [.long (Int32.toInt64 ((gi σ_4 b_3 6) - v2))]) (rest := []) (d' := 0) hC dX1_steps_60 1 (lw_V q768 q770 qs17 q85 q771) (by decide +kernel) (List.mem_singleton.mp hm) (by decide) (by decide) rfl rfl rfl (Nat.le_of_ble_eq_true rfl) (Nat.le_trans (by decide) hd) (by decide) vMP_l (fun _ h => c_X1_tell (Nat.le_refl _) h) (fun σ_5 => ?_))
    refine V_aload_n hC dX1_steps_63 rfl ?_
    refine V_aload_n hC dX1_steps_64 rfl ?_
    refine g_X1_286 hC dX1_steps_65 ?_
    refine V_i2l hC dX1_steps_68 ?_
    refine V_cko (fun hm => V_callV_V (c := 1) (As := [.long (Int32.toInt64 (gi σ_5 a0 20))]) (rest := []) (d' := 0) hC dX1_steps_69 1 (lw_V q768 q770 qs17 q85 q771) (by decide +kernel) (List.mem_singleton.mp hm) (by decide) (by decide) rfl rfl rfl (Nat.le_of_ble_eq_true rfl) (Nat.le_trans (by decide) hd) (by decide) vMP_l (fun _ h => c_X1_tell (Nat.le_refl _) h) (fun σ_6 => ?_))
    refine V_aload_n hC dX1_steps_72 rfl ?_
    refine g_X1_21 hC dX1_steps_73 (fun b_4 => ?_)
    refine g_X1_280 hC dX1_steps_76 ?_
    exact V_ireturn dX1_steps_79 rfl rfl
  · refine V_iconst (v := (-1)) hC dX1_steps_12 rfl ?_
    exact V_ireturn dX1_steps_13 rfl rfl
theorem c_X1_steps {l : Launch} {d : Nat} (hd : 4 ≤ d) {σ : vMem} {a0 : Nat} {x1 : Int32} {r : Int32 × vMem} (h : f_X1_steps σ a0 x1 = some r) : vOk l yX1_steps cX1_steps 3 (some .int) d [.ref a0, .int x1] σ (.inl ((eI).1 r, (eI).2 r)) := V_method (em := eI) [some (.ref a0), some (.int x1), none] (by decide +kernel) rfl (Nat.le_of_ble_eq_true rfl) (w_X1_steps hd σ a0 x1) h
/-! NobodyBeenAft$Log.<init>([BI)V -/
def f_X11_init (σ : vMem) (a0 : Nat) (a1 : Nat) (x2 : Int32) : Option (vMem) := bv (f_X5_init σ a0 a1 x2 60) (fun σ_1 => nwa σ_1 103 60 (fun b σ_2 => cko σ_2 a0 [11] (vl (sr σ_2 a0 4 (some b)) (fun σ_3 => nwa σ_3 105 60 (fun b_1 σ_4 => cko σ_4 a0 [11] (vl (sr σ_4 a0 5 (some b_1)) (fun σ_5 => some σ_5)))))))
abbrev P_X11_init (l : Launch) (d n0 s0 : Nat) : vX → Prop := vMP l yX11_init cX11_init 3 none d n0 s0
theorem w_X11_init {l : Launch} {d n0 s0 : Nat} (hd : 1 ≤ d) (σ : vMem) (a0 : Nat) (a1 : Nat) (x2 : Int32) : V (P_X11_init l d n0 s0) (vEmb eV) σ 0 [some (.ref a0), some (.ref a1), some (.int x2)] [] (f_X11_init σ a0 a1 x2) := by
  have hC : vPx (P_X11_init l d n0 s0) cX11_init 3 "NobodyBeenAft$Log" none d := vMP_cx
  refine V_eq (f_X11_init.eq_1 ..) ?_
  refine V_aload_n hC dX11_init_0 rfl ?_
  refine V_aload_n hC dX11_init_1 rfl ?_
  refine V_iload_n hC dX11_init_2 rfl ?_
  refine V_bipush (v := 60) hC dX11_init_3 rfl ?_
  refine V_callI_V (As := [.ref a1, .int x2, .int 60]) (rest := []) (d' := 0) hC dX11_init_5 3 q324 q89 q781 q323 rfl rfl (by decide +kernel) rfl rfl (Nat.le_of_ble_eq_true rfl) (Nat.le_trans (by decide) hd) (by decide) vMP_l (fun _ h => c_X5_init (Nat.le_refl _) h) (fun σ_1 => ?_)
  refine V_aload_n hC dX11_init_8 rfl ?_
  refine V_bipush (v := 60) hC dX11_init_9 rfl ?_
  refine V_newa_char hC dX11_init_11 q799 (fun b σ_2 => ?_)
  refine p_X11_9 hC dX11_init_13 (fun X hX => (vMP_n X hX).trans rfl) (fun σ_3 => ?_)
  refine V_aload_n hC dX11_init_16 rfl ?_
  refine V_bipush (v := 60) hC dX11_init_17 rfl ?_
  refine V_newa_int hC dX11_init_19 q172 (fun b_1 σ_4 => ?_)
  refine p_X11_15 hC dX11_init_21 (fun X hX => (vMP_n X hX).trans rfl) (fun σ_5 => ?_)
  exact V_return dX11_init_24 rfl rfl
theorem c_X11_init {l : Launch} {d : Nat} (hd : 1 ≤ d) {σ : vMem} {a0 : Nat} {a1 : Nat} {x2 : Int32} {r : vMem} (h : f_X11_init σ a0 a1 x2 = some r) : vOk l yX11_init cX11_init 3 none d [.ref a0, .ref a1, .int x2] σ (.inl ((eV).1 r, (eV).2 r)) := V_method (em := eV) [some (.ref a0), some (.ref a1), some (.int x2)] (by decide +kernel) rfl (Nat.le_of_ble_eq_true rfl) (w_X11_init hd σ a0 a1 x2) h
/-! NobodyBeenAft$Log.act()V -/
def f_X11_act (σ : vMem) (a0 : Nat) : Option (vMem ⊕ (Nat × vMem)) := cko σ a0 [11] (bp (f_X5_here σ a0) (fun r => bp (f_X1_in σ (Int32.toInt64 r) 49 57) (fun r_1 => vl (fun (y : Int32) => cko σ a0 [11] (bxv (f_X5_need σ a0 y) (fun σ_1 => cko σ_1 a0 [11] (cko σ_1 a0 [11] (vl (si σ_1 a0 3 ((gi σ_1 a0 3) + 1)) (fun σ_3 => cko σ_3 a0 [11] (dr (gr σ_3 a0 4) (fun b_1 => cko σ_3 a0 [11] (vl (fun (y_1 : Int32) => cka σ_3 b_1 103 (gi σ_3 a0 6) (vl (si σ_3 b_1 (Int32.toNatClampNeg (gi σ_3 a0 6)) (vp_nar .char y_1)) (fun σ_4 => cko σ_4 a0 [11] (dr (gr σ_4 a0 5) (fun b_2 => cko σ_4 a0 [11] (vl (fun (σ_5 : vMem) (y_2 : Int32) => cka σ_5 b_2 105 (gi σ_4 a0 6) (vl (si σ_5 b_2 (Int32.toNatClampNeg (gi σ_4 a0 6)) y_2) (fun σ_6 => some (.inl σ_6)))) (fun k_2 => if r_1 = 0 then (if ¬ r = 112 then (k_2 σ_4 (r - 61)) else cko σ_4 a0 [11] (bx (f_X5_digit σ_4 a0 0 9) (fun r_2 σ_7 => k_2 σ_7 r_2) (fun b_3 σ_8 => cko σ_8 b_3 [6, 17, 18] (some (.inr (b_3, σ_8)))))) else k_2 σ_4 (r - 48)))))))) (fun k_1 => if r_1 = 0 then (k_1 ((Int32.toUInt32 r % 65536).toInt32)) else k_1 115)))))))) (fun b σ_2 => cko σ_2 b [6, 17, 18] (some (.inr (b, σ_2)))))) (fun k => vl (k 1) (fun k_3 => if ¬ r_1 = 0 then k_3 else if r = 60 then k_3 else if r = 61 then k_3 else if r = 62 then k_3 else if ¬ r = 112 then (k 0) else k_3)))))
abbrev P_X11_act (l : Launch) (d n0 s0 : Nat) : vX → Prop := vMX l yX11_act cX11_act 3 none [] d n0 s0
theorem w_X11_act {l : Launch} {d n0 s0 : Nat} (hd : 6 ≤ d) (h0 : l.stackTraces = false) (σ : vMem) (a0 : Nat) : V (P_X11_act l d n0 s0) xV σ 0 [some (.ref a0), none, none] [] (f_X11_act σ a0) := by
  have hC : vPx (P_X11_act l d n0 s0) cX11_act 3 "NobodyBeenAft$Log" none d := vMX_cx
  refine V_eq (f_X11_act.eq_1 ..) ?_
  refine V_aload_n hC dX11_act_0 rfl ?_
  refine V_cko (fun hm => V_callU_PI (C := "NobodyBeenAft$Log") (owner := "NobodyBeenAft$Words") (c := 11) (As := []) (rest := []) (d' := 0) hC dX11_act_1 0 (lw_app (List.forall_mem_cons.mpr ⟨q808, List.forall_mem_cons.mpr ⟨q809, List.forall_mem_cons.mpr ⟨q810, List.forall_mem_cons.mpr ⟨q375, List.forall_mem_cons.mpr ⟨q89, fun _ h => absurd h List.not_mem_nil⟩⟩⟩⟩⟩) (lw_meth q380)) rfl (by decide +kernel) (List.mem_singleton.mp hm) (by decide) (by decide) rfl rfl rfl (Nat.le_of_ble_eq_true rfl) (Nat.le_trans (by decide) hd) (by decide) vMX_l (fun _ h => c_X5_here (Nat.le_refl _) h) (fun r => ?_))
  refine V_istore_n (ls' := [some (.ref a0), some (.int r), none]) hC dX11_act_4 (by decide) rfl rfl ?_
  refine V_iload_n hC dX11_act_5 rfl ?_
  refine V_i2l hC dX11_act_6 ?_
  refine V_ldc2 hC dX11_act_7 q811 ?_
  refine V_ldc2 hC dX11_act_10 q812 ?_
  refine V_callSN_PI (As := [.long (Int32.toInt64 r), .long 49, .long 57]) (rest := []) (d' := 0) hC dX11_act_13 3 q287 q85 q813 q286 (by decide +kernel) rfl rfl (Nat.le_of_ble_eq_true rfl) (Nat.le_trans (by decide) hd) (by decide) vMX_l (fun _ h => c_X1_in (Nat.le_refl _) h) (fun r_1 => ?_)
  refine V_istore_n (ls' := [some (.ref a0), some (.int r), some (.int r_1)]) hC dX11_act_16 (by decide) rfl rfl ?_
  refine V_aload_n hC dX11_act_17 rfl ?_
  refine V_iload_n hC dX11_act_18 rfl ?_
  refine V_let (B := fun k => ∀ (y : Int32), V (P_X11_act l d n0 s0) xV σ 51 [some (.ref a0), some (.int r), some (.int r_1)] [.int y, .ref a0] (k y)) ?_ ?_
  · intro y
    refine V_cko (fun hm => V_xcallU_V (C := "NobodyBeenAft$Log") (owner := "NobodyBeenAft$Words") (c := 11) (As := [.int y]) (rest := []) (d' := 4) hC dX11_act_51 1 (lw_app (List.forall_mem_cons.mpr ⟨q814, List.forall_mem_cons.mpr ⟨q815, List.forall_mem_cons.mpr ⟨q816, List.forall_mem_cons.mpr ⟨q383, List.forall_mem_cons.mpr ⟨q89, fun _ h => absurd h List.not_mem_nil⟩⟩⟩⟩⟩) (lw_meth q388)) rfl (by decide +kernel) (List.mem_singleton.mp hm) (by decide) (by decide) rfl rfl rfl (Nat.le_of_ble_eq_true rfl) (Nat.le_trans (by decide) hd) (by decide) vMX_l (fun _ h => c_X5_need (Nat.le_refl _) h0 h) (fun σ_1 => ?_) (fun b σ_2 => ?_))
    · refine V_aload_n hC dX11_act_54 rfl ?_
      refine V_dup hC dX11_act_55 rfl ?_
      refine g_X11_19 hC dX11_act_56 ?_
      refine V_iconst (v := 1) hC dX11_act_59 rfl ?_
      refine V_iadd hC dX11_act_60 ?_
      refine p_X11_19 hC dX11_act_61 (fun σ_3 => ?_)
      refine V_aload_n hC dX11_act_64 rfl ?_
      refine g_X11_9 hC dX11_act_65 (fun b_1 => ?_)
      refine V_aload_n hC dX11_act_68 rfl ?_
      refine g_X11_30 hC dX11_act_69 ?_
      refine V_iload_n hC dX11_act_72 rfl ?_
      refine V_let (B := fun k_1 => ∀ (y_1 : Int32), V (P_X11_act l d n0 s0) xV σ_3 83 [some (.ref a0), some (.int r), some (.int r_1)] [.int y_1, .int (gi σ_3 a0 6), .ref b_1] (k_1 y_1)) ?_ ?_
      · intro y_1
        refine V_cast hC dX11_act_83 (fun σ_4 => ?_)
        refine V_aload_n hC dX11_act_84 rfl ?_
        refine g_X11_15 hC dX11_act_85 (fun b_2 => ?_)
        refine V_aload_n hC dX11_act_88 rfl ?_
        refine g_X11_30 hC dX11_act_89 ?_
        refine V_iload_n hC dX11_act_92 rfl ?_
        refine V_let (B := fun k_2 => ∀ (σ_5 : vMem), ∀ (y_2 : Int32), V (P_X11_act l d n0 s0) xV σ_5 123 [none, none, none] [.int y_2, .int (gi σ_4 a0 6), .ref b_2] (k_2 σ_5 y_2)) ?_ ?_
        · intro σ_5 y_2
          refine V_iast hC dX11_act_123 (fun σ_6 => ?_)
          exact V_xreturn dX11_act_124 rfl
        · intro k_2 hk_2
          refine V_if_eq (tgt := 103) hC dX11_act_93 (by decide) ?_ ?_
          · refine V_iload_n hC dX11_act_103 rfl ?_
            refine V_bipush (v := 112) hC dX11_act_104 rfl ?_
            refine V_icmp_ne (tgt := 119) hC dX11_act_106 (by decide) ?_ ?_
            · refine V_iload_n hC dX11_act_119 rfl ?_
              refine V_bipush (v := 61) hC dX11_act_120 rfl ?_
              refine V_isub hC dX11_act_122 ?_
              refine V_clr [0, 1, 2] (ls' := [none, none, none]) rfl ?_
              exact hk_2 σ_4 (r - 61)
            · refine V_aload_n hC dX11_act_109 rfl ?_
              refine V_iconst (v := 0) hC dX11_act_110 rfl ?_
              refine V_bipush (v := 9) hC dX11_act_111 rfl ?_
              refine V_cko (fun hm => V_xcallU_I (C := "NobodyBeenAft$Log") (owner := "NobodyBeenAft$Words") (c := 11) (As := [.int 0, .int 9]) (rest := [.int (gi σ_4 a0 6), .ref b_2]) (d' := 5) hC dX11_act_113 2 (lw_app (List.forall_mem_cons.mpr ⟨q817, List.forall_mem_cons.mpr ⟨q818, List.forall_mem_cons.mpr ⟨q820, List.forall_mem_cons.mpr ⟨q368, List.forall_mem_cons.mpr ⟨q89, fun _ h => absurd h List.not_mem_nil⟩⟩⟩⟩⟩) (lw_meth q373)) rfl (by decide +kernel) (List.mem_singleton.mp hm) (by decide) (by decide) rfl rfl rfl (Nat.le_of_ble_eq_true rfl) (Nat.le_trans (by decide) hd) (by decide) vMX_l (fun _ h => c_X5_digit (Nat.le_refl _) h0 h) (fun r_2 σ_7 => ?_) (fun b_3 σ_8 => ?_))
              · refine V_goto (tgt := 123) hC dX11_act_116 (by decide) ?_
                refine V_clr [0, 1, 2] (ls' := [none, none, none]) rfl ?_
                exact hk_2 σ_7 r_2
              · exact VT_outS (by decide) rfl
          · refine V_iload_n hC dX11_act_96 rfl ?_
            refine V_bipush (v := 48) hC dX11_act_97 rfl ?_
            refine V_isub hC dX11_act_99 ?_
            refine V_goto (tgt := 123) hC dX11_act_100 (by decide) ?_
            refine V_clr [0, 1, 2] (ls' := [none, none, none]) rfl ?_
            exact hk_2 σ_4 (r - 48)
      · intro k_1 hk_1
        refine V_if_eq (tgt := 81) hC dX11_act_73 (by decide) ?_ ?_
        · refine V_iload_n hC dX11_act_81 rfl ?_
          refine V_i2c hC dX11_act_82 ?_
          exact hk_1 ((Int32.toUInt32 r % 65536).toInt32)
        · refine V_bipush (v := 115) hC dX11_act_76 rfl ?_
          refine V_goto (tgt := 83) hC dX11_act_78 (by decide) ?_
          exact hk_1 115
    · exact VT_outS (by decide) rfl
  · intro k hk
    refine V_let (B := fun k_3 => V (P_X11_act l d n0 s0) xV σ 46 [some (.ref a0), some (.int r), some (.int r_1)] [.ref a0] (k_3)) ?_ ?_
    · skip
      refine V_iconst (v := 1) hC dX11_act_46 rfl ?_
      refine V_goto (tgt := 51) hC dX11_act_47 (by decide) ?_
      exact hk 1
    · intro k_3 hk_3
      refine V_if_ne (tgt := 46) hC dX11_act_19 (by decide) ?_ ?_
      · exact hk_3
      · refine V_iload_n hC dX11_act_22 rfl ?_
        refine V_bipush (v := 60) hC dX11_act_23 rfl ?_
        refine V_icmp_eq (tgt := 46) hC dX11_act_25 (by decide) ?_ ?_
        · exact hk_3
        · refine V_iload_n hC dX11_act_28 rfl ?_
          refine V_bipush (v := 61) hC dX11_act_29 rfl ?_
          refine V_icmp_eq (tgt := 46) hC dX11_act_31 (by decide) ?_ ?_
          · exact hk_3
          · refine V_iload_n hC dX11_act_34 rfl ?_
            refine V_bipush (v := 62) hC dX11_act_35 rfl ?_
            refine V_icmp_eq (tgt := 46) hC dX11_act_37 (by decide) ?_ ?_
            · exact hk_3
            · refine V_iload_n hC dX11_act_40 rfl ?_
              refine V_bipush (v := 112) hC dX11_act_41 rfl ?_
              refine V_icmp_ne (tgt := 50) hC dX11_act_43 (by decide) ?_ ?_
              · refine V_iconst (v := 0) hC dX11_act_50 rfl ?_
                exact hk 0
              · exact hk_3
theorem c_X11_act {l : Launch} {d : Nat} (hd : 6 ≤ d) (h0 : l.stackTraces = false) {σ : vMem} {a0 : Nat} {r : vMem ⊕ (Nat × vMem)} (h : f_X11_act σ a0 = some r) : vOx l yX11_act (ws_ yX11_act cX11_act 3 none) d [.ref a0] σ (xV r) := V_xmethod (em := xV) [some (.ref a0), none, none] (by decide +kernel) rfl (Nat.le_of_ble_eq_true rfl) (w_X11_act hd h0 σ a0) h
/-! NobodyBeenAft$Log.read()V -/
def f_X11_read_0 (a0 : Nat) : Nat → vMem → Option (vMem ⊕ (Nat × vMem))
  | 0, _ => none
  | n + 1, σ_1 => cko σ_1 a0 [11] (cko σ_1 a0 [11] (vl (cko σ_1 a0 [11] (bxv (f_X5_needEnd σ_1 a0) (fun σ_2 => some (.inl σ_2)) (fun b σ_3 => cko σ_3 b [6, 17, 18] (some (.inr (b, σ_3)))))) (fun k => if (gi σ_1 a0 2) ≤ (gi σ_1 a0 3) then k else cko σ_1 a0 [11] (bxv (f_X11_act σ_1 a0) (fun σ_4 => cko σ_4 a0 [11] (cko σ_4 a0 [11] (vl (si σ_4 a0 6 ((gi σ_4 a0 6) + 1)) (fun σ_6 => f_X11_read_0 a0 n σ_6)))) (fun b_1 σ_5 => cko σ_5 b_1 [6, 17, 18] (some (.inr (b_1, σ_5))))))))
def f_X11_read (σ : vMem) (a0 : Nat) : Option (vMem ⊕ (Nat × vMem)) := f_X11_read_0 a0 FU σ
abbrev P_X11_read (l : Launch) (d n0 s0 : Nat) : vX → Prop := vMX l yX11_read cX11_read 1 none [] d n0 s0
theorem w_X11_read_0 {l : Launch} {d n0 s0 : Nat} (hd : 7 ≤ d) (h0 : l.stackTraces = false) (a0 : Nat)  : ∀ (n : Nat) (σ_1 : vMem), V (P_X11_read l d n0 s0) xV σ_1 0 [some (.ref a0)] [] (f_X11_read_0 a0 n σ_1) := by
  have hC : vPx (P_X11_read l d n0 s0) cX11_read 1 "NobodyBeenAft$Log" none d := vMX_cx
  intro n
  induction n with
  | zero =>
    intro σ_1
    exact V_none
  | succ n ih =>
    intro σ_1
    refine V_eq (f_X11_read_0.eq_2 ..) ?_
    refine V_aload_n hC dX11_read_0 rfl ?_
    refine g_X11_19 hC dX11_read_1 ?_
    refine V_aload_n hC dX11_read_4 rfl ?_
    refine g_X11_23 hC dX11_read_5 ?_
    refine V_let (B := fun k => V (P_X11_read l d n0 s0) xV σ_1 28 [some (.ref a0)] [] (k)) ?_ ?_
    · skip
      refine V_aload_n hC dX11_read_28 rfl ?_
      refine V_cko (fun hm => V_xcallU_V (C := "NobodyBeenAft$Log") (owner := "NobodyBeenAft$Words") (c := 11) (As := []) (rest := []) (d' := 5) hC dX11_read_29 0 (lw_app (List.forall_mem_cons.mpr ⟨q821, List.forall_mem_cons.mpr ⟨q822, List.forall_mem_cons.mpr ⟨q823, List.forall_mem_cons.mpr ⟨q462, List.forall_mem_cons.mpr ⟨q89, fun _ h => absurd h List.not_mem_nil⟩⟩⟩⟩⟩) (lw_meth q467)) rfl (by decide +kernel) (List.mem_singleton.mp hm) (by decide) (by decide) rfl rfl rfl (Nat.le_of_ble_eq_true rfl) (Nat.le_trans (by decide) hd) (by decide) vMX_l (fun _ h => c_X5_needEnd (Nat.le_refl _) h0 h) (fun σ_2 => ?_) (fun b σ_3 => ?_))
      · exact V_xreturn dX11_read_32 rfl
      · exact VT_outS (by decide) rfl
    · intro k hk
      refine V_icmp_ge (tgt := 28) hC dX11_read_8 (by decide) ?_ ?_
      · exact hk
      · refine V_aload_n hC dX11_read_11 rfl ?_
        refine V_cko (fun hm => V_xcallV_V (c := 11) (As := []) (rest := []) (d' := 6) hC dX11_read_12 0 (lw_V q804 q806 qs18 q107 q807) (by decide +kernel) (List.mem_singleton.mp hm) (by decide) (by decide) rfl rfl rfl (Nat.le_of_ble_eq_true rfl) (Nat.le_trans (by decide) hd) (by decide) vMX_l (fun _ h => c_X11_act (Nat.le_refl _) h0 h) (fun σ_4 => ?_) (fun b_1 σ_5 => ?_))
        · refine V_aload_n hC dX11_read_15 rfl ?_
          refine V_dup hC dX11_read_16 rfl ?_
          refine g_X11_30 hC dX11_read_17 ?_
          refine V_iconst (v := 1) hC dX11_read_20 rfl ?_
          refine V_iadd hC dX11_read_21 ?_
          refine p_X11_30 hC dX11_read_22 (fun σ_6 => ?_)
          refine V_goto (tgt := 0) hC dX11_read_25 (by decide) ?_
          exact ih σ_6
        · exact VT_outS (by decide) rfl
theorem w_X11_read {l : Launch} {d n0 s0 : Nat} (hd : 7 ≤ d) (h0 : l.stackTraces = false) (σ : vMem) (a0 : Nat) : V (P_X11_read l d n0 s0) xV σ 0 [some (.ref a0)] [] (f_X11_read σ a0) := by
  have hC : vPx (P_X11_read l d n0 s0) cX11_read 1 "NobodyBeenAft$Log" none d := vMX_cx
  refine V_eq (f_X11_read.eq_1 ..) ?_
  exact (w_X11_read_0 hd h0 a0) FU σ
theorem c_X11_read {l : Launch} {d : Nat} (hd : 7 ≤ d) (h0 : l.stackTraces = false) {σ : vMem} {a0 : Nat} {r : vMem ⊕ (Nat × vMem)} (h : f_X11_read σ a0 = some r) : vOx l yX11_read (ws_ yX11_read cX11_read 1 none) d [.ref a0] σ (xV r) := V_xmethod (em := xV) [some (.ref a0)] (by decide +kernel) rfl (Nat.le_of_ble_eq_true rfl) (w_X11_read hd h0 σ a0) h
/-! NobodyBeenAft.act(CI)Z -/
def f_X1_act (σ : vMem) (a0 : Nat) (x1 : Int32) (x2 : Int32) : Option (Int32 × vMem) := if x1 = 112 then (cko σ a0 [1] (bp (f_X1_refusesPass σ a0 x2 1 1) (fun r => if 0 ≤ r then (cko σ a0 [1] (bd (f_X1_passes σ a0 x2 1 1) (fun r_1 σ_1 => some (1, σ_1)))) else some (0, σ)))) else if x1 = 115 then (cko σ a0 [1] (dr (gr σ a0 0) (fun b => cko σ a0 [1] (bv (f_X1_goSteps σ a0 b x2) (fun σ_2 => some (1, σ_2)))))) else cko σ a0 [1] (dr (gr σ a0 0) (fun b_1 => bp (f_X1_refusesOrder σ b_1) (fun r_2 => if 0 ≤ r_2 then (cko σ a0 [1] (dr (gr σ a0 0) (fun b_2 => cko σ a0 [1] (bd (f_X1_orders σ a0 b_2 x2) (fun r_3 σ_3 => some (1, σ_3)))))) else some (0, σ))))
abbrev P_X1_act (l : Launch) (d n0 s0 : Nat) : vX → Prop := vMP l yX1_act cX1_act 3 (some .boolean) d n0 s0
theorem w_X1_act {l : Launch} {d n0 s0 : Nat} (hd : 611 ≤ d) (h0 : l.stackTraces = false) (σ : vMem) (a0 : Nat) (x1 : Int32) (x2 : Int32) : V (P_X1_act l d n0 s0) (vEmb eI) σ 0 [some (.ref a0), some (.int x1), some (.int x2)] [] (f_X1_act σ a0 x1 x2) := by
  have hC : vPx (P_X1_act l d n0 s0) cX1_act 3 "NobodyBeenAft" (some .boolean) d := vMP_cx
  refine V_eq (f_X1_act.eq_1 ..) ?_
  refine V_iload_n hC dX1_act_0 rfl ?_
  refine V_if (fun hx => ?_) (fun h_0 => ?_)
  · refine V_look (off := 38) (tgt := 39) hC dX1_act_1 (by decide) (by rw [hx]; decide) (by decide) ?_
    refine V_aload_n hC dX1_act_39 rfl ?_
    refine V_iload_n hC dX1_act_40 rfl ?_
    refine V_iconst (v := 1) hC dX1_act_41 rfl ?_
    refine V_iconst (v := 1) hC dX1_act_42 rfl ?_
    refine V_cko (fun hm => V_callV_PI (c := 1) (As := [.int x2, .int 1, .int 1]) (rest := []) (d' := 2) hC dX1_act_43 3 (lw_V q727 q729 qs11 q85 q730) (by decide +kernel) (List.mem_singleton.mp hm) (by decide) (by decide) rfl rfl rfl (Nat.le_of_ble_eq_true rfl) (Nat.le_trans (by decide) hd) (by decide) vMP_l (fun _ h => c_X1_refusesPass (Nat.le_refl _) h) (fun r => ?_))
    refine V_if_ge (tgt := 51) hC dX1_act_46 (by decide) ?_ ?_
    · refine V_aload_n hC dX1_act_51 rfl ?_
      refine V_iload_n hC dX1_act_52 rfl ?_
      refine V_iconst (v := 1) hC dX1_act_53 rfl ?_
      refine V_iconst (v := 1) hC dX1_act_54 rfl ?_
      refine V_cko (fun hm => V_callV_I (c := 1) (As := [.int x2, .int 1, .int 1]) (rest := []) (d' := 0) hC dX1_act_55 3 (lw_V q736 q738 qs13 q85 q739) (by decide +kernel) (List.mem_singleton.mp hm) (by decide) (by decide) rfl rfl rfl (Nat.le_of_ble_eq_true rfl) (Nat.le_trans (by decide) hd) (by decide) vMP_l (fun _ h => c_X1_passes (Nat.le_refl _) h) (fun r_1 σ_1 => ?_))
      refine V_pop hC dX1_act_58 rfl ?_
      refine V_iconst (v := 1) hC dX1_act_59 rfl ?_
      exact V_zreturn rfl dX1_act_60 rfl rfl
    · refine V_iconst (v := 0) hC dX1_act_49 rfl ?_
      exact V_zreturn rfl dX1_act_50 rfl rfl
  · skip
    refine V_if (fun hx => ?_) (fun h_1 => ?_)
    · refine V_look (off := 27) (tgt := 28) hC dX1_act_1 (by decide) (by rw [hx]; decide) (by decide) ?_
      refine V_aload_n hC dX1_act_28 rfl ?_
      refine V_aload_n hC dX1_act_29 rfl ?_
      refine g_X1_21 hC dX1_act_30 (fun b => ?_)
      refine V_iload_n hC dX1_act_33 rfl ?_
      refine V_cko (fun hm => V_callV_V (c := 1) (As := [.ref b, .int x2]) (rest := []) (d' := 3) hC dX1_act_34 2 (lw_V q749 q751 qs14 q85 q752) (by decide +kernel) (List.mem_singleton.mp hm) (by decide) (by decide) rfl rfl rfl (Nat.le_of_ble_eq_true rfl) (Nat.le_trans (by decide) hd) (by decide) vMP_l (fun _ h => c_X1_goSteps (Nat.le_refl _) h) (fun σ_2 => ?_))
      refine V_iconst (v := 1) hC dX1_act_37 rfl ?_
      exact V_zreturn rfl dX1_act_38 rfl rfl
    · skip
      refine V_look (off := 60) (tgt := 61) hC dX1_act_1 (by decide) ((lv_osw h_0 (by decide)).trans ((lv_osw h_1 (by decide)).trans (rfl))) (by decide) ?_
      refine V_aload_n hC dX1_act_61 rfl ?_
      refine g_X1_21 hC dX1_act_62 (fun b_1 => ?_)
      refine V_callS_PI (As := [.ref b_1]) (rest := []) (d' := 0) hC dX1_act_65 1 (lw_S q698 q699 q85 q700) (by decide +kernel) rfl rfl (Nat.le_of_ble_eq_true rfl) (Nat.le_trans (by decide) hd) (by decide) vMP_l (fun _ h => c_X1_refusesOrder (Nat.le_refl _) h) (fun r_2 => ?_)
      refine V_if_ge (tgt := 73) hC dX1_act_68 (by decide) ?_ ?_
      · refine V_aload_n hC dX1_act_73 rfl ?_
        refine V_aload_n hC dX1_act_74 rfl ?_
        refine g_X1_21 hC dX1_act_75 (fun b_2 => ?_)
        refine V_iload_n hC dX1_act_78 rfl ?_
        refine V_cko (fun hm => V_callV_I (c := 1) (As := [.ref b_2, .int x2]) (rest := []) (d' := 610) hC dX1_act_79 2 (lw_V q710 q712 qs9 q85 q713) (by decide +kernel) (List.mem_singleton.mp hm) (by decide) (by decide) rfl rfl rfl (Nat.le_of_ble_eq_true rfl) (Nat.le_trans (by decide) hd) (by decide) vMP_l (fun _ h => c_X1_orders (Nat.le_refl _) h0 h) (fun r_3 σ_3 => ?_))
        refine V_pop hC dX1_act_82 rfl ?_
        refine V_iconst (v := 1) hC dX1_act_83 rfl ?_
        exact V_zreturn rfl dX1_act_84 rfl rfl
      · refine V_iconst (v := 0) hC dX1_act_71 rfl ?_
        exact V_zreturn rfl dX1_act_72 rfl rfl
theorem c_X1_act {l : Launch} {d : Nat} (hd : 611 ≤ d) (h0 : l.stackTraces = false) {σ : vMem} {a0 : Nat} {x1 : Int32} {x2 : Int32} {r : Int32 × vMem} (h : f_X1_act σ a0 x1 x2 = some r) : vOk l yX1_act cX1_act 3 (some .boolean) d [.ref a0, .int x1, .int x2] σ (.inl ((eI).1 r, (eI).2 r)) := V_method (em := eI) [some (.ref a0), some (.int x1), some (.int x2)] (by decide +kernel) rfl (Nat.le_of_ble_eq_true rfl) (w_X1_act hd h0 σ a0 x1 x2) h
