/-! MACHINE HALF, printed by gen/build.py: terms (f_), walks (w_), contracts (c_) -/
set_option maxRecDepth 100000
/-! NobodyBeenAftModel.order(I)I -/
def f_X3_order (σ : vMem) (a0 : Nat) (x1 : Int32) : Option (Int32 × vMem) := cko σ a0 [3] (vl (si σ a0 0 0) (fun σ_1 => cko σ_1 a0 [3] (bv (f_X3_putsBy σ_1 a0) (fun σ_2 => cko σ_2 a0 [3] (dr (gr σ_2 a0 14) (fun b => cko σ_2 a0 [3] (bd (f_X3_gives σ_2 a0 b x1) (fun r σ_3 => cko σ_3 a0 [3] (bd (f_X3_counts σ_3 a0 r) (fun r_1 σ_4 => some (r_1, σ_4)))))))))))
abbrev P_X3_order (l : Launch) (d n0 s0 : Nat) : vX → Prop := vMP l yX3_order cX3_order 2 (some .int) d n0 s0
theorem w_X3_order {l : Launch} {d n0 s0 : Nat} (hd : 5 ≤ d) (σ : vMem) (a0 : Nat) (x1 : Int32) : V (P_X3_order l d n0 s0) (vEmb eI) σ 0 [some (.ref a0), some (.int x1)] [] (f_X3_order σ a0 x1) := by
  have hC : vPx (P_X3_order l d n0 s0) cX3_order 2 "NobodyBeenAftModel" (some .int) d := vMP_cx
  refine V_eq (f_X3_order.eq_1 ..) ?_
  refine V_aload_n hC dX3_order_0 rfl ?_
  refine V_iconst (v := 0) hC dX3_order_1 rfl ?_
  refine p_X3_103 hC dX3_order_2 (fun σ_1 => ?_)
  refine V_aload_n hC dX3_order_5 rfl ?_
  refine V_cko (fun hm => V_callV_V (c := 3) (As := []) (rest := []) (d' := 0) hC dX3_order_6 0 (lw_V q1636 q1638 qs49 q87 q1639) (by decide +kernel) (List.mem_singleton.mp hm) (by decide) (by decide) rfl rfl rfl (Nat.le_of_ble_eq_true rfl) (Nat.le_trans (by decide) hd) (by decide) vMP_l (fun _ h => c_X3_putsBy (Nat.le_refl _) h) (fun σ_2 => ?_))
  refine V_aload_n hC dX3_order_9 rfl ?_
  refine V_aload_n hC dX3_order_10 rfl ?_
  refine V_aload_n hC dX3_order_11 rfl ?_
  refine g_X3_34 hC dX3_order_12 (fun b => ?_)
  refine V_iload_n hC dX3_order_15 rfl ?_
  refine V_cko (fun hm => V_callV_I (c := 3) (As := [.ref b, .int x1]) (rest := [.ref a0]) (d' := 4) hC dX3_order_16 2 (lw_V q1640 q1642 qs50 q87 q1643) (by decide +kernel) (List.mem_singleton.mp hm) (by decide) (by decide) rfl rfl rfl (Nat.le_of_ble_eq_true rfl) (Nat.le_trans (by decide) hd) (by decide) vMP_l (fun _ h => c_X3_gives (Nat.le_refl _) h) (fun r σ_3 => ?_))
  refine V_cko (fun hm => V_callV_I (c := 3) (As := [.int r]) (rest := []) (d' := 1) hC dX3_order_19 1 (lw_V q1649 q1651 qs52 q87 q1652) (by decide +kernel) (List.mem_singleton.mp hm) (by decide) (by decide) rfl rfl rfl (Nat.le_of_ble_eq_true rfl) (Nat.le_trans (by decide) hd) (by decide) vMP_l (fun _ h => c_X3_counts (Nat.le_refl _) h) (fun r_1 σ_4 => ?_))
  exact V_ireturn dX3_order_22 rfl rfl
theorem c_X3_order {l : Launch} {d : Nat} (hd : 5 ≤ d) {σ : vMem} {a0 : Nat} {x1 : Int32} {r : Int32 × vMem} (h : f_X3_order σ a0 x1 = some r) : vOk l yX3_order cX3_order 2 (some .int) d [.ref a0, .int x1] σ (.inl ((eI).1 r, (eI).2 r)) := V_method (em := eI) [some (.ref a0), some (.int x1)] (by decide +kernel) rfl (Nat.le_of_ble_eq_true rfl) (w_X3_order hd σ a0 x1) h
/-! NobodyBeenAftModel.passes(III)I -/
def f_X3_passes (σ : vMem) (a0 : Nat) (x1 : Int32) (x2 : Int32) (x3 : Int32) : Option (Int32 × vMem) := vl (fun (y : Int32) => cko σ a0 [3] (bp (f_X3_isMess σ a0 x1) (fun r => if r = 0 then (some ((-1), σ)) else bp (f_X3_in σ (Int32.toInt64 x3) 0 1) (fun r_1 => if r_1 = 0 then (some ((-1), σ)) else cko σ a0 [3] (bp (f_X3_isMess σ a0 y) (fun r_2 => if r_2 = 0 then (some ((-1), σ)) else bp (f_X3_in σ (Int32.toInt64 x2) 1 99) (fun r_3 => if ¬ r_3 = 0 then (cko σ a0 [3] (dr (gr σ a0 14) (fun b => cka σ b 105 (41 + x1) (if x2 ≤ (gi σ b (Int32.toNatClampNeg (41 + x1))) then (cko σ a0 [3] (dr (gr σ a0 14) (fun b_1 => cka σ b_1 105 (41 + y) (if ((gi σ b_1 (Int32.toNatClampNeg (41 + y))) + x2) ≤ 99 then (cko σ a0 [3] (dr (gr σ a0 14) (fun b_2 => cka σ b_2 105 (41 + x1) (cka σ b_2 105 (41 + x1) (vl (si σ b_2 (Int32.toNatClampNeg (41 + x1)) ((gi σ b_2 (Int32.toNatClampNeg (41 + x1))) - x2)) (fun σ_1 => cko σ_1 a0 [3] (dr (gr σ_1 a0 14) (fun b_3 => cka σ_1 b_3 105 (41 + y) (cka σ_1 b_3 105 (41 + y) (vl (si σ_1 b_3 (Int32.toNatClampNeg (41 + y)) ((gi σ_1 b_3 (Int32.toNatClampNeg (41 + y))) + x2)) (fun σ_2 => cko σ_2 a0 [3] (dr (gr σ_2 a0 14) (fun b_4 => cka σ_2 b_4 105 (41 + x1) (some ((gi σ_2 b_4 (Int32.toNatClampNeg (41 + x1))), σ_2))))))))))))))) else some ((-3), σ))))) else some ((-2), σ))))) else some ((-1), σ)))))))) (fun k => if ¬ x3 = 1 then (k (x1 - 1)) else k (x1 + 1))
abbrev P_X3_passes (l : Launch) (d n0 s0 : Nat) : vX → Prop := vMP l yX3_passes cX3_passes 5 (some .int) d n0 s0
theorem w_X3_passes {l : Launch} {d n0 s0 : Nat} (hd : 2 ≤ d) (σ : vMem) (a0 : Nat) (x1 : Int32) (x2 : Int32) (x3 : Int32) : V (P_X3_passes l d n0 s0) (vEmb eI) σ 0 [some (.ref a0), some (.int x1), some (.int x2), some (.int x3), none] [] (f_X3_passes σ a0 x1 x2 x3) := by
  have hC : vPx (P_X3_passes l d n0 s0) cX3_passes 5 "NobodyBeenAftModel" (some .int) d := vMP_cx
  refine V_eq (f_X3_passes.eq_1 ..) ?_
  refine V_iload_n hC dX3_passes_0 rfl ?_
  refine V_iconst (v := 1) hC dX3_passes_1 rfl ?_
  refine V_let (B := fun k => ∀ (y : Int32), V (P_X3_passes l d n0 s0) (vEmb eI) σ 14 [some (.ref a0), some (.int x1), some (.int x2), some (.int x3), none] [.int y] (k y)) ?_ ?_
  · intro y
    refine V_istore (ls' := [some (.ref a0), some (.int x1), some (.int x2), some (.int x3), some (.int y)]) hC dX3_passes_14 (by decide) rfl rfl ?_
    refine V_aload_n hC dX3_passes_16 rfl ?_
    refine V_iload_n hC dX3_passes_17 rfl ?_
    refine V_cko (fun hm => V_callV_PI (c := 3) (As := [.int x1]) (rest := []) (d' := 1) hC dX3_passes_18 1 (lw_V q1594 q1596 qs45 q87 q1597) (by decide +kernel) (List.mem_singleton.mp hm) (by decide) (by decide) rfl rfl rfl (Nat.le_of_ble_eq_true rfl) (Nat.le_trans (by decide) hd) (by decide) vMP_l (fun _ h => c_X3_isMess (Nat.le_refl _) h) (fun r => ?_))
    refine V_if_eq (tgt := 55) hC dX3_passes_21 (by decide) ?_ ?_
    · refine V_iconst (v := (-1)) hC dX3_passes_55 rfl ?_
      exact V_ireturn dX3_passes_56 rfl rfl
    · refine V_iload_n hC dX3_passes_24 rfl ?_
      refine V_i2l hC dX3_passes_25 ?_
      refine V_lconst (v := 0) hC dX3_passes_26 rfl ?_
      refine V_lconst (v := 1) hC dX3_passes_27 rfl ?_
      refine V_callS_PI (As := [.long (Int32.toInt64 x3), .long 0, .long 1]) (rest := []) (d' := 0) hC dX3_passes_28 3 (lw_S q1448 q1449 q87 q1450) (by decide +kernel) rfl rfl (Nat.le_of_ble_eq_true rfl) (Nat.le_trans (by decide) hd) (by decide) vMP_l (fun _ h => c_X3_in (Nat.le_refl _) h) (fun r_1 => ?_)
      refine V_if_eq (tgt := 55) hC dX3_passes_31 (by decide) ?_ ?_
      · refine V_iconst (v := (-1)) hC dX3_passes_55 rfl ?_
        exact V_ireturn dX3_passes_56 rfl rfl
      · refine V_aload_n hC dX3_passes_34 rfl ?_
        refine V_iload hC dX3_passes_35 rfl ?_
        refine V_cko (fun hm => V_callV_PI (c := 3) (As := [.int y]) (rest := []) (d' := 1) hC dX3_passes_37 1 (lw_V q1594 q1596 qs45 q87 q1597) (by decide +kernel) (List.mem_singleton.mp hm) (by decide) (by decide) rfl rfl rfl (Nat.le_of_ble_eq_true rfl) (Nat.le_trans (by decide) hd) (by decide) vMP_l (fun _ h => c_X3_isMess (Nat.le_refl _) h) (fun r_2 => ?_))
        refine V_if_eq (tgt := 55) hC dX3_passes_40 (by decide) ?_ ?_
        · refine V_iconst (v := (-1)) hC dX3_passes_55 rfl ?_
          exact V_ireturn dX3_passes_56 rfl rfl
        · refine V_iload_n hC dX3_passes_43 rfl ?_
          refine V_i2l hC dX3_passes_44 ?_
          refine V_lconst (v := 1) hC dX3_passes_45 rfl ?_
          refine V_ldc2 hC dX3_passes_46 q1665 ?_
          refine V_callS_PI (As := [.long (Int32.toInt64 x2), .long 1, .long 99]) (rest := []) (d' := 0) hC dX3_passes_49 3 (lw_S q1448 q1449 q87 q1450) (by decide +kernel) rfl rfl (Nat.le_of_ble_eq_true rfl) (Nat.le_trans (by decide) hd) (by decide) vMP_l (fun _ h => c_X3_in (Nat.le_refl _) h) (fun r_3 => ?_)
          refine V_if_ne (tgt := 57) hC dX3_passes_52 (by decide) ?_ ?_
          · refine V_aload_n hC dX3_passes_57 rfl ?_
            refine g_X3_34 hC dX3_passes_58 (fun b => ?_)
            refine V_bipush (v := 41) hC dX3_passes_61 rfl ?_
            refine V_iload_n hC dX3_passes_63 rfl ?_
            refine V_iadd hC dX3_passes_64 ?_
            refine V_iald hC dX3_passes_65 ?_
            refine V_iload_n hC dX3_passes_66 rfl ?_
            refine V_icmp_ge (tgt := 73) hC dX3_passes_67 (by decide) ?_ ?_
            · refine V_aload_n hC dX3_passes_73 rfl ?_
              refine g_X3_34 hC dX3_passes_74 (fun b_1 => ?_)
              refine V_bipush (v := 41) hC dX3_passes_77 rfl ?_
              refine V_iload hC dX3_passes_79 rfl ?_
              refine V_iadd hC dX3_passes_81 ?_
              refine V_iald hC dX3_passes_82 ?_
              refine V_iload_n hC dX3_passes_83 rfl ?_
              refine V_iadd hC dX3_passes_84 ?_
              refine V_bipush (v := 99) hC dX3_passes_85 rfl ?_
              refine V_icmp_le (tgt := 93) hC dX3_passes_87 (by decide) ?_ ?_
              · refine V_aload_n hC dX3_passes_93 rfl ?_
                refine g_X3_34 hC dX3_passes_94 (fun b_2 => ?_)
                refine V_bipush (v := 41) hC dX3_passes_97 rfl ?_
                refine V_iload_n hC dX3_passes_99 rfl ?_
                refine V_iadd hC dX3_passes_100 ?_
                refine V_dup2 hC dX3_passes_101 rfl rfl ?_
                refine V_iald hC dX3_passes_102 ?_
                refine V_iload_n hC dX3_passes_103 rfl ?_
                refine V_isub hC dX3_passes_104 ?_
                refine V_iast hC dX3_passes_105 (fun σ_1 => ?_)
                refine V_aload_n hC dX3_passes_106 rfl ?_
                refine g_X3_34 hC dX3_passes_107 (fun b_3 => ?_)
                refine V_bipush (v := 41) hC dX3_passes_110 rfl ?_
                refine V_iload hC dX3_passes_112 rfl ?_
                refine V_iadd hC dX3_passes_114 ?_
                refine V_dup2 hC dX3_passes_115 rfl rfl ?_
                refine V_iald hC dX3_passes_116 ?_
                refine V_iload_n hC dX3_passes_117 rfl ?_
                refine V_iadd hC dX3_passes_118 ?_
                refine V_iast hC dX3_passes_119 (fun σ_2 => ?_)
                refine V_aload_n hC dX3_passes_120 rfl ?_
                refine g_X3_34 hC dX3_passes_121 (fun b_4 => ?_)
                refine V_bipush (v := 41) hC dX3_passes_124 rfl ?_
                refine V_iload_n hC dX3_passes_126 rfl ?_
                refine V_iadd hC dX3_passes_127 ?_
                refine V_iald hC dX3_passes_128 ?_
                exact V_ireturn dX3_passes_129 rfl rfl
              · refine V_bipush (v := (-3)) hC dX3_passes_90 rfl ?_
                exact V_ireturn dX3_passes_92 rfl rfl
            · refine V_bipush (v := (-2)) hC dX3_passes_70 rfl ?_
              exact V_ireturn dX3_passes_72 rfl rfl
          · refine V_iconst (v := (-1)) hC dX3_passes_55 rfl ?_
            exact V_ireturn dX3_passes_56 rfl rfl
  · intro k hk
    refine V_icmp_ne (tgt := 11) hC dX3_passes_2 (by decide) ?_ ?_
    · refine V_iload_n hC dX3_passes_11 rfl ?_
      refine V_iconst (v := 1) hC dX3_passes_12 rfl ?_
      refine V_isub hC dX3_passes_13 ?_
      exact hk (x1 - 1)
    · refine V_iload_n hC dX3_passes_5 rfl ?_
      refine V_iconst (v := 1) hC dX3_passes_6 rfl ?_
      refine V_iadd hC dX3_passes_7 ?_
      refine V_goto (tgt := 14) hC dX3_passes_8 (by decide) ?_
      exact hk (x1 + 1)
theorem c_X3_passes {l : Launch} {d : Nat} (hd : 2 ≤ d) {σ : vMem} {a0 : Nat} {x1 : Int32} {x2 : Int32} {x3 : Int32} {r : Int32 × vMem} (h : f_X3_passes σ a0 x1 x2 x3 = some r) : vOk l yX3_passes cX3_passes 5 (some .int) d [.ref a0, .int x1, .int x2, .int x3] σ (.inl ((eI).1 r, (eI).2 r)) := V_method (em := eI) [some (.ref a0), some (.int x1), some (.int x2), some (.int x3), none] (by decide +kernel) rfl (Nat.le_of_ble_eq_true rfl) (w_X3_passes hd σ a0 x1 x2 x3) h
/-! NobodyBeenAftModel.pass(III)I -/
def f_X3_pass (σ : vMem) (a0 : Nat) (x1 : Int32) (x2 : Int32) (x3 : Int32) : Option (Int32 × vMem) := cko σ a0 [3] (vl (si σ a0 0 0) (fun σ_1 => cko σ_1 a0 [3] (bv (f_X3_putsBy σ_1 a0) (fun σ_2 => cko σ_2 a0 [3] (bd (f_X3_passes σ_2 a0 x1 x2 x3) (fun r σ_3 => cko σ_3 a0 [3] (bd (f_X3_counts σ_3 a0 r) (fun r_1 σ_4 => some (r_1, σ_4)))))))))
abbrev P_X3_pass (l : Launch) (d n0 s0 : Nat) : vX → Prop := vMP l yX3_pass cX3_pass 4 (some .int) d n0 s0
theorem w_X3_pass {l : Launch} {d n0 s0 : Nat} (hd : 3 ≤ d) (σ : vMem) (a0 : Nat) (x1 : Int32) (x2 : Int32) (x3 : Int32) : V (P_X3_pass l d n0 s0) (vEmb eI) σ 0 [some (.ref a0), some (.int x1), some (.int x2), some (.int x3)] [] (f_X3_pass σ a0 x1 x2 x3) := by
  have hC : vPx (P_X3_pass l d n0 s0) cX3_pass 4 "NobodyBeenAftModel" (some .int) d := vMP_cx
  refine V_eq (f_X3_pass.eq_1 ..) ?_
  refine V_aload_n hC dX3_pass_0 rfl ?_
  refine V_iconst (v := 0) hC dX3_pass_1 rfl ?_
  refine p_X3_103 hC dX3_pass_2 (fun σ_1 => ?_)
  refine V_aload_n hC dX3_pass_5 rfl ?_
  refine V_cko (fun hm => V_callV_V (c := 3) (As := []) (rest := []) (d' := 0) hC dX3_pass_6 0 (lw_V q1636 q1638 qs49 q87 q1639) (by decide +kernel) (List.mem_singleton.mp hm) (by decide) (by decide) rfl rfl rfl (Nat.le_of_ble_eq_true rfl) (Nat.le_trans (by decide) hd) (by decide) vMP_l (fun _ h => c_X3_putsBy (Nat.le_refl _) h) (fun σ_2 => ?_))
  refine V_aload_n hC dX3_pass_9 rfl ?_
  refine V_aload_n hC dX3_pass_10 rfl ?_
  refine V_iload_n hC dX3_pass_11 rfl ?_
  refine V_iload_n hC dX3_pass_12 rfl ?_
  refine V_iload_n hC dX3_pass_13 rfl ?_
  refine V_cko (fun hm => V_callV_I (c := 3) (As := [.int x1, .int x2, .int x3]) (rest := [.ref a0]) (d' := 2) hC dX3_pass_14 3 (lw_V q1661 q1663 qs54 q87 q1664) (by decide +kernel) (List.mem_singleton.mp hm) (by decide) (by decide) rfl rfl rfl (Nat.le_of_ble_eq_true rfl) (Nat.le_trans (by decide) hd) (by decide) vMP_l (fun _ h => c_X3_passes (Nat.le_refl _) h) (fun r σ_3 => ?_))
  refine V_cko (fun hm => V_callV_I (c := 3) (As := [.int r]) (rest := []) (d' := 1) hC dX3_pass_17 1 (lw_V q1649 q1651 qs52 q87 q1652) (by decide +kernel) (List.mem_singleton.mp hm) (by decide) (by decide) rfl rfl rfl (Nat.le_of_ble_eq_true rfl) (Nat.le_trans (by decide) hd) (by decide) vMP_l (fun _ h => c_X3_counts (Nat.le_refl _) h) (fun r_1 σ_4 => ?_))
  exact V_ireturn dX3_pass_20 rfl rfl
theorem c_X3_pass {l : Launch} {d : Nat} (hd : 3 ≤ d) {σ : vMem} {a0 : Nat} {x1 : Int32} {x2 : Int32} {x3 : Int32} {r : Int32 × vMem} (h : f_X3_pass σ a0 x1 x2 x3 = some r) : vOk l yX3_pass cX3_pass 4 (some .int) d [.ref a0, .int x1, .int x2, .int x3] σ (.inl ((eI).1 r, (eI).2 r)) := V_method (em := eI) [some (.ref a0), some (.int x1), some (.int x2), some (.int x3)] (by decide +kernel) rfl (Nat.le_of_ble_eq_true rfl) (w_X3_pass hd σ a0 x1 x2 x3) h
/-! NobodyBeenAftModel.cooks(II)I -/
def f_X3_cooks (σ : vMem) (a0 : Nat) (x1 : Int32) (x2 : Int32) : Option (Int32 × vMem) := cko σ a0 [3] (bp (f_X3_isMess σ a0 x1) (fun r => if r = 0 then (some ((-1), σ)) else bp (f_X3_in σ (Int32.toInt64 x2) 0 99) (fun r_1 => if ¬ r_1 = 0 then (cko σ a0 [3] (dr (gr σ a0 14) (fun b => cka σ b 105 (41 + x1) (vl (gi σ b (Int32.toNatClampNeg (41 + x1))) (fun v3 => cko σ a0 [3] (dr (gr σ a0 14) (fun b_1 => cka σ b_1 105 (41 + x1) (vl (si σ b_1 (Int32.toNatClampNeg (41 + x1)) x2) (fun σ_1 => some (v3, σ_1)))))))))) else some ((-1), σ))))
abbrev P_X3_cooks (l : Launch) (d n0 s0 : Nat) : vX → Prop := vMP l yX3_cooks cX3_cooks 4 (some .int) d n0 s0
theorem w_X3_cooks {l : Launch} {d n0 s0 : Nat} (hd : 2 ≤ d) (σ : vMem) (a0 : Nat) (x1 : Int32) (x2 : Int32) : V (P_X3_cooks l d n0 s0) (vEmb eI) σ 0 [some (.ref a0), some (.int x1), some (.int x2), none] [] (f_X3_cooks σ a0 x1 x2) := by
  have hC : vPx (P_X3_cooks l d n0 s0) cX3_cooks 4 "NobodyBeenAftModel" (some .int) d := vMP_cx
  refine V_eq (f_X3_cooks.eq_1 ..) ?_
  refine V_aload_n hC dX3_cooks_0 rfl ?_
  refine V_iload_n hC dX3_cooks_1 rfl ?_
  refine V_cko (fun hm => V_callV_PI (c := 3) (As := [.int x1]) (rest := []) (d' := 1) hC dX3_cooks_2 1 (lw_V q1594 q1596 qs45 q87 q1597) (by decide +kernel) (List.mem_singleton.mp hm) (by decide) (by decide) rfl rfl rfl (Nat.le_of_ble_eq_true rfl) (Nat.le_trans (by decide) hd) (by decide) vMP_l (fun _ h => c_X3_isMess (Nat.le_refl _) h) (fun r => ?_))
  refine V_if_eq (tgt := 20) hC dX3_cooks_5 (by decide) ?_ ?_
  · refine V_iconst (v := (-1)) hC dX3_cooks_20 rfl ?_
    exact V_ireturn dX3_cooks_21 rfl rfl
  · refine V_iload_n hC dX3_cooks_8 rfl ?_
    refine V_i2l hC dX3_cooks_9 ?_
    refine V_lconst (v := 0) hC dX3_cooks_10 rfl ?_
    refine V_ldc2 hC dX3_cooks_11 q1665 ?_
    refine V_callS_PI (As := [.long (Int32.toInt64 x2), .long 0, .long 99]) (rest := []) (d' := 0) hC dX3_cooks_14 3 (lw_S q1448 q1449 q87 q1450) (by decide +kernel) rfl rfl (Nat.le_of_ble_eq_true rfl) (Nat.le_trans (by decide) hd) (by decide) vMP_l (fun _ h => c_X3_in (Nat.le_refl _) h) (fun r_1 => ?_)
    refine V_if_ne (tgt := 22) hC dX3_cooks_17 (by decide) ?_ ?_
    · refine V_aload_n hC dX3_cooks_22 rfl ?_
      refine g_X3_34 hC dX3_cooks_23 (fun b => ?_)
      refine V_bipush (v := 41) hC dX3_cooks_26 rfl ?_
      refine V_iload_n hC dX3_cooks_28 rfl ?_
      refine V_iadd hC dX3_cooks_29 ?_
      refine V_iald hC dX3_cooks_30 ?_
      refine V_istore_nL (ls' := fun v3 => [some (.ref a0), some (.int x1), some (.int x2), some (.int v3)]) hC dX3_cooks_31 (by decide) rfl (fun _ => rfl) (fun v3 => ?_)
      refine V_aload_n hC dX3_cooks_32 rfl ?_
      refine g_X3_34 hC dX3_cooks_33 (fun b_1 => ?_)
      refine V_bipush (v := 41) hC dX3_cooks_36 rfl ?_
      refine V_iload_n hC dX3_cooks_38 rfl ?_
      refine V_iadd hC dX3_cooks_39 ?_
      refine V_iload_n hC dX3_cooks_40 rfl ?_
      refine V_iast hC dX3_cooks_41 (fun σ_1 => ?_)
      refine V_iload_n hC dX3_cooks_42 rfl ?_
      exact V_ireturn dX3_cooks_43 rfl rfl
    · refine V_iconst (v := (-1)) hC dX3_cooks_20 rfl ?_
      exact V_ireturn dX3_cooks_21 rfl rfl
theorem c_X3_cooks {l : Launch} {d : Nat} (hd : 2 ≤ d) {σ : vMem} {a0 : Nat} {x1 : Int32} {x2 : Int32} {r : Int32 × vMem} (h : f_X3_cooks σ a0 x1 x2 = some r) : vOk l yX3_cooks cX3_cooks 4 (some .int) d [.ref a0, .int x1, .int x2] σ (.inl ((eI).1 r, (eI).2 r)) := V_method (em := eI) [some (.ref a0), some (.int x1), some (.int x2), none] (by decide +kernel) rfl (Nat.le_of_ble_eq_true rfl) (w_X3_cooks hd σ a0 x1 x2) h
/-! NobodyBeenAftModel.cook(II)I -/
def f_X3_cook (σ : vMem) (a0 : Nat) (x1 : Int32) (x2 : Int32) : Option (Int32 × vMem) := cko σ a0 [3] (vl (si σ a0 0 0) (fun σ_1 => cko σ_1 a0 [3] (bv (f_X3_putsBy σ_1 a0) (fun σ_2 => cko σ_2 a0 [3] (bd (f_X3_cooks σ_2 a0 x1 x2) (fun r σ_3 => cko σ_3 a0 [3] (bd (f_X3_counts σ_3 a0 r) (fun r_1 σ_4 => some (r_1, σ_4)))))))))
abbrev P_X3_cook (l : Launch) (d n0 s0 : Nat) : vX → Prop := vMP l yX3_cook cX3_cook 3 (some .int) d n0 s0
theorem w_X3_cook {l : Launch} {d n0 s0 : Nat} (hd : 3 ≤ d) (σ : vMem) (a0 : Nat) (x1 : Int32) (x2 : Int32) : V (P_X3_cook l d n0 s0) (vEmb eI) σ 0 [some (.ref a0), some (.int x1), some (.int x2)] [] (f_X3_cook σ a0 x1 x2) := by
  have hC : vPx (P_X3_cook l d n0 s0) cX3_cook 3 "NobodyBeenAftModel" (some .int) d := vMP_cx
  refine V_eq (f_X3_cook.eq_1 ..) ?_
  refine V_aload_n hC dX3_cook_0 rfl ?_
  refine V_iconst (v := 0) hC dX3_cook_1 rfl ?_
  refine p_X3_103 hC dX3_cook_2 (fun σ_1 => ?_)
  refine V_aload_n hC dX3_cook_5 rfl ?_
  refine V_cko (fun hm => V_callV_V (c := 3) (As := []) (rest := []) (d' := 0) hC dX3_cook_6 0 (lw_V q1636 q1638 qs49 q87 q1639) (by decide +kernel) (List.mem_singleton.mp hm) (by decide) (by decide) rfl rfl rfl (Nat.le_of_ble_eq_true rfl) (Nat.le_trans (by decide) hd) (by decide) vMP_l (fun _ h => c_X3_putsBy (Nat.le_refl _) h) (fun σ_2 => ?_))
  refine V_aload_n hC dX3_cook_9 rfl ?_
  refine V_aload_n hC dX3_cook_10 rfl ?_
  refine V_iload_n hC dX3_cook_11 rfl ?_
  refine V_iload_n hC dX3_cook_12 rfl ?_
  refine V_cko (fun hm => V_callV_I (c := 3) (As := [.int x1, .int x2]) (rest := [.ref a0]) (d' := 2) hC dX3_cook_13 2 (lw_V q1670 q1672 qs55 q87 q1673) (by decide +kernel) (List.mem_singleton.mp hm) (by decide) (by decide) rfl rfl rfl (Nat.le_of_ble_eq_true rfl) (Nat.le_trans (by decide) hd) (by decide) vMP_l (fun _ h => c_X3_cooks (Nat.le_refl _) h) (fun r σ_3 => ?_))
  refine V_cko (fun hm => V_callV_I (c := 3) (As := [.int r]) (rest := []) (d' := 1) hC dX3_cook_16 1 (lw_V q1649 q1651 qs52 q87 q1652) (by decide +kernel) (List.mem_singleton.mp hm) (by decide) (by decide) rfl rfl rfl (Nat.le_of_ble_eq_true rfl) (Nat.le_trans (by decide) hd) (by decide) vMP_l (fun _ h => c_X3_counts (Nat.le_refl _) h) (fun r_1 σ_4 => ?_))
  exact V_ireturn dX3_cook_19 rfl rfl
theorem c_X3_cook {l : Launch} {d : Nat} (hd : 3 ≤ d) {σ : vMem} {a0 : Nat} {x1 : Int32} {x2 : Int32} {r : Int32 × vMem} (h : f_X3_cook σ a0 x1 x2 = some r) : vOk l yX3_cook cX3_cook 3 (some .int) d [.ref a0, .int x1, .int x2] σ (.inl ((eI).1 r, (eI).2 r)) := V_method (em := eI) [some (.ref a0), some (.int x1), some (.int x2)] (by decide +kernel) rfl (Nat.le_of_ble_eq_true rfl) (w_X3_cook hd σ a0 x1 x2) h
/-! NobodyBeenAftModel.startsCounting()V -/
def f_X3_startsCounting (σ : vMem) (a0 : Nat) : Option (vMem) := cko σ a0 [3] (vl (si σ a0 31 0) (fun σ_1 => cko σ_1 a0 [3] (vl (si σ_1 a0 32 0) (fun σ_2 => some σ_2))))
abbrev P_X3_startsCounting (l : Launch) (d n0 s0 : Nat) : vX → Prop := vMP l yX3_startsCounting cX3_startsCounting 1 none d n0 s0
theorem w_X3_startsCounting {l : Launch} {d n0 s0 : Nat} (hd : 0 ≤ d) (σ : vMem) (a0 : Nat) : V (P_X3_startsCounting l d n0 s0) (vEmb eV) σ 0 [some (.ref a0)] [] (f_X3_startsCounting σ a0) := by
  have hC : vPx (P_X3_startsCounting l d n0 s0) cX3_startsCounting 1 "NobodyBeenAftModel" none d := vMP_cx
  refine V_eq (f_X3_startsCounting.eq_1 ..) ?_
  refine V_aload_n hC dX3_startsCounting_0 rfl ?_
  refine V_iconst (v := 0) hC dX3_startsCounting_1 rfl ?_
  refine p_X3_276 hC dX3_startsCounting_2 (fun σ_1 => ?_)
  refine V_aload_n hC dX3_startsCounting_5 rfl ?_
  refine V_iconst (v := 0) hC dX3_startsCounting_6 rfl ?_
  refine p_X3_279 hC dX3_startsCounting_7 (fun σ_2 => ?_)
  exact V_return dX3_startsCounting_10 rfl rfl
theorem c_X3_startsCounting {l : Launch} {d : Nat} (hd : 0 ≤ d) {σ : vMem} {a0 : Nat} {r : vMem} (h : f_X3_startsCounting σ a0 = some r) : vOk l yX3_startsCounting cX3_startsCounting 1 none d [.ref a0] σ (.inl ((eV).1 r, (eV).2 r)) := V_method (em := eV) [some (.ref a0)] (by decide +kernel) rfl (Nat.le_of_ble_eq_true rfl) (w_X3_startsCounting hd σ a0) h
/-! NobodyBeenAftModel.put(I)I -/
def f_X3_put (σ : vMem) (x0 : Int32) : Option (Int32) := some (imax 0 (imin 8 x0))
abbrev P_X3_put (l : Launch) (d n0 s0 : Nat) : vX → Prop := vMP l yX3_put cX3_put 1 (some .int) d n0 s0
theorem w_X3_put {l : Launch} {d n0 s0 : Nat} (hd : 0 ≤ d) (σ : vMem) (x0 : Int32) : V (P_X3_put l d n0 s0) (vEmb (ePI σ)) σ 0 [some (.int x0)] [] (f_X3_put σ x0) := by
  have hC : vPx (P_X3_put l d n0 s0) cX3_put 1 "NobodyBeenAftModel" (some .int) d := vMP_cx
  refine V_eq (f_X3_put.eq_1 ..) ?_
  refine V_iconst (v := 0) hC dX3_put_0 rfl ?_
  refine V_bipush (v := 8) hC dX3_put_1 rfl ?_
  refine V_iload_n hC dX3_put_3 rfl ?_
  refine V_mmin hC dX3_put_4 q1459 q327 q90 q328 (Nat.le_of_ble_eq_true rfl) ?_
  refine V_mmax hC dX3_put_7 q1612 q677 q90 q678 (Nat.le_of_ble_eq_true rfl) ?_
  exact V_ireturn dX3_put_10 rfl rfl
theorem c_X3_put {l : Launch} {d : Nat} (hd : 0 ≤ d) {σ : vMem} {x0 : Int32} {r : Int32} (h : f_X3_put σ x0 = some r) : vOk l yX3_put cX3_put 1 (some .int) d [.int x0] σ (.inl (((ePI σ)).1 r, ((ePI σ)).2 r)) := V_method (em := (ePI σ)) [some (.int x0)] (by decide +kernel) rfl (Nat.le_of_ble_eq_true rfl) (w_X3_put hd σ x0) h
/-! NobodyBeenAftModel.doesDue([I)V -/
def f_X3_doesDue_49 (a0 : Nat) (v1_1 : Int32) (v2 : Int32) (v3 : Int32) (k_2 : vMem → Option (vMem)) : Nat → vMem → Int32 → Option (vMem)
  | 0, _, _ => none
  | n_1 + 1, σ_6, v4 => if 3 ≤ v4 then (k_2 σ_6) else cka σ_6 a0 105 (v3 + v4) (cka σ_6 a0 105 ((5 + (3 * v1_1)) + v4) (vl (si σ_6 a0 (Int32.toNatClampNeg ((5 + (3 * v1_1)) + v4)) (gi σ_6 a0 (Int32.toNatClampNeg (v3 + v4)))) (fun σ_7 => vl (v4 + 1) (fun v4_1 => f_X3_doesDue_49 a0 v1_1 v2 v3 k_2 n_1 σ_7 v4_1))))
def f_X3_doesDue_4 (a0 : Nat) (k : vMem → Int32 → Option (vMem)) : Nat → vMem → Int32 → Int32 → Option (vMem)
  | 0, _, _, _ => none
  | n + 1, σ_3, v1_1, v2 => cka σ_3 a0 105 3 (if (gi σ_3 a0 (Int32.toNatClampNeg 3)) ≤ v2 then (k σ_3 v1_1) else vl (5 + (3 * v2)) (fun v3 => cka σ_3 a0 105 (v3 + 0) (cka σ_3 a0 105 0 (vl (fun (σ_4 : vMem) (v1_2 : Int32) => vl (v2 + 1) (fun v2_1 => f_X3_doesDue_4 a0 k n σ_4 v1_2 v2_1)) (fun k_1 => if ¬ (gi σ_3 a0 (Int32.toNatClampNeg (v3 + 0))) = (gi σ_3 a0 (Int32.toNatClampNeg 0)) then (vl (fun (σ_5 : vMem) => vl (v1_1 + 1) (fun v1_3 => k_1 σ_5 v1_3)) (fun k_2 => f_X3_doesDue_49 a0 v1_1 v2 v3 k_2 FU σ_3 0)) else cka σ_3 a0 105 1 (cka σ_3 a0 105 (v3 + 1) (bp (f_X3_put σ_3 ((gi σ_3 a0 (Int32.toNatClampNeg 1)) + (gi σ_3 a0 (Int32.toNatClampNeg (v3 + 1))))) (fun r => cka σ_3 a0 105 1 (vl (si σ_3 a0 (Int32.toNatClampNeg 1) r) (fun σ_8 => k_1 σ_8 v1_1))))))))))
def f_X3_doesDue (σ : vMem) (a0 : Nat) : Option (vMem) := vl (fun (σ_1 : vMem) (v1 : Int32) => cka σ_1 a0 105 3 (vl (si σ_1 a0 (Int32.toNatClampNeg 3) v1) (fun σ_2 => some σ_2))) (fun k => f_X3_doesDue_4 a0 k FU σ 0 0)
abbrev P_X3_doesDue (l : Launch) (d n0 s0 : Nat) : vX → Prop := vMP l yX3_doesDue cX3_doesDue 5 none d n0 s0
theorem w_X3_doesDue_49 {l : Launch} {d n0 s0 : Nat} (hd : 1 ≤ d) (a0 : Nat) (v1_1 : Int32) (v2 : Int32) (v3 : Int32) (k_2 : vMem → Option (vMem)) (hk_2 : ∀ (σ_5 : vMem), V (P_X3_doesDue l d n0 s0) (vEmb eV) σ_5 77 [some (.ref a0), some (.int v1_1), some (.int v2), none, none] [] (k_2 σ_5)) : ∀ (n_1 : Nat) (σ_6 : vMem) (v4 : Int32), V (P_X3_doesDue l d n0 s0) (vEmb eV) σ_6 49 [some (.ref a0), some (.int v1_1), some (.int v2), some (.int v3), some (.int v4)] [] (f_X3_doesDue_49 a0 v1_1 v2 v3 k_2 n_1 σ_6 v4) := by
  have hC : vPx (P_X3_doesDue l d n0 s0) cX3_doesDue 5 "NobodyBeenAftModel" none d := vMP_cx
  intro n_1
  induction n_1 with
  | zero =>
    intro σ_6 v4
    exact V_none
  | succ n_1 ih =>
    intro σ_6 v4
    refine V_eq (f_X3_doesDue_49.eq_2 ..) ?_
    refine V_iload hC dX3_doesDue_49 rfl ?_
    refine V_iconst (v := 3) hC dX3_doesDue_51 rfl ?_
    refine V_icmp_ge (tgt := 77) hC dX3_doesDue_52 (by decide) ?_ ?_
    · refine V_clr [3, 4] (ls' := [some (.ref a0), some (.int v1_1), some (.int v2), none, none]) rfl ?_
      exact hk_2 σ_6
    · refine V_aload_n hC dX3_doesDue_55 rfl ?_
      refine V_iconst (v := 5) hC dX3_doesDue_56 rfl ?_
      refine V_iconst (v := 3) hC dX3_doesDue_57 rfl ?_
      refine V_iload_n hC dX3_doesDue_58 rfl ?_
      refine V_imul hC dX3_doesDue_59 ?_
      refine V_iadd hC dX3_doesDue_60 ?_
      refine V_iload hC dX3_doesDue_61 rfl ?_
      refine V_iadd hC dX3_doesDue_63 ?_
      refine V_aload_n hC dX3_doesDue_64 rfl ?_
      refine V_iload_n hC dX3_doesDue_65 rfl ?_
      refine V_iload hC dX3_doesDue_66 rfl ?_
      refine V_iadd hC dX3_doesDue_68 ?_
      refine V_iald hC dX3_doesDue_69 ?_
      refine V_iast hC dX3_doesDue_70 (fun σ_7 => ?_)
      refine V_iincL (v := v4 + 1) (ls' := fun v4_1 => [some (.ref a0), some (.int v1_1), some (.int v2), some (.int v3), some (.int v4_1)]) hC dX3_doesDue_71 rfl (by decide) rfl rfl (fun _ => rfl) (fun v4_1 => ?_)
      refine V_goto (tgt := 49) hC dX3_doesDue_74 (by decide) ?_
      exact ih σ_7 v4_1
theorem w_X3_doesDue_4 {l : Launch} {d n0 s0 : Nat} (hd : 1 ≤ d) (a0 : Nat) (k : vMem → Int32 → Option (vMem)) (hk : ∀ (σ_1 : vMem), ∀ (v1 : Int32), V (P_X3_doesDue l d n0 s0) (vEmb eV) σ_1 86 [some (.ref a0), some (.int v1), none, none, none] [] (k σ_1 v1)) : ∀ (n : Nat) (σ_3 : vMem) (v1_1 : Int32) (v2 : Int32), V (P_X3_doesDue l d n0 s0) (vEmb eV) σ_3 4 [some (.ref a0), some (.int v1_1), some (.int v2), none, none] [] (f_X3_doesDue_4 a0 k n σ_3 v1_1 v2) := by
  have hC : vPx (P_X3_doesDue l d n0 s0) cX3_doesDue 5 "NobodyBeenAftModel" none d := vMP_cx
  intro n
  induction n with
  | zero =>
    intro σ_3 v1_1 v2
    exact V_none
  | succ n ih =>
    intro σ_3 v1_1 v2
    refine V_eq (f_X3_doesDue_4.eq_2 ..) ?_
    refine V_iload_n hC dX3_doesDue_4 rfl ?_
    refine V_aload_n hC dX3_doesDue_5 rfl ?_
    refine V_iconst (v := 3) hC dX3_doesDue_6 rfl ?_
    refine V_iald hC dX3_doesDue_7 ?_
    refine V_icmp_ge (tgt := 86) hC dX3_doesDue_8 (by decide) ?_ ?_
    · refine V_clr [2] (ls' := [some (.ref a0), some (.int v1_1), none, none, none]) rfl ?_
      exact hk σ_3 v1_1
    · refine V_iconst (v := 5) hC dX3_doesDue_11 rfl ?_
      refine V_iconst (v := 3) hC dX3_doesDue_12 rfl ?_
      refine V_iload_n hC dX3_doesDue_13 rfl ?_
      refine V_imul hC dX3_doesDue_14 ?_
      refine V_iadd hC dX3_doesDue_15 ?_
      refine V_istore_nL (ls' := fun v3 => [some (.ref a0), some (.int v1_1), some (.int v2), some (.int v3), none]) hC dX3_doesDue_16 (by decide) rfl (fun _ => rfl) (fun v3 => ?_)
      refine V_aload_n hC dX3_doesDue_17 rfl ?_
      refine V_iload_n hC dX3_doesDue_18 rfl ?_
      refine V_iconst (v := 0) hC dX3_doesDue_19 rfl ?_
      refine V_iadd hC dX3_doesDue_20 ?_
      refine V_iald hC dX3_doesDue_21 ?_
      refine V_aload_n hC dX3_doesDue_22 rfl ?_
      refine V_iconst (v := 0) hC dX3_doesDue_23 rfl ?_
      refine V_iald hC dX3_doesDue_24 ?_
      refine V_let (B := fun k_1 => ∀ (σ_4 : vMem), ∀ (v1_2 : Int32), V (P_X3_doesDue l d n0 s0) (vEmb eV) σ_4 80 [some (.ref a0), some (.int v1_2), some (.int v2), none, none] [] (k_1 σ_4 v1_2)) ?_ ?_
      · intro σ_4 v1_2
        refine V_iincL (v := v2 + 1) (ls' := fun v2_1 => [some (.ref a0), some (.int v1_2), some (.int v2_1), none, none]) hC dX3_doesDue_80 rfl (by decide) rfl rfl (fun _ => rfl) (fun v2_1 => ?_)
        refine V_goto (tgt := 4) hC dX3_doesDue_83 (by decide) ?_
        exact ih σ_4 v1_2 v2_1
      · intro k_1 hk_1
        refine V_icmp_ne (tgt := 46) hC dX3_doesDue_25 (by decide) ?_ ?_
        · refine V_iconst (v := 0) hC dX3_doesDue_46 rfl ?_
          refine V_istore (ls' := [some (.ref a0), some (.int v1_1), some (.int v2), some (.int v3), some (.int 0)]) hC dX3_doesDue_47 (by decide) rfl rfl ?_
          refine V_let (B := fun k_2 => ∀ (σ_5 : vMem), V (P_X3_doesDue l d n0 s0) (vEmb eV) σ_5 77 [some (.ref a0), some (.int v1_1), some (.int v2), none, none] [] (k_2 σ_5)) ?_ ?_
          · intro σ_5
            refine V_iincL (v := v1_1 + 1) (ls' := fun v1_3 => [some (.ref a0), some (.int v1_3), some (.int v2), none, none]) hC dX3_doesDue_77 rfl (by decide) rfl rfl (fun _ => rfl) (fun v1_3 => ?_)
            exact hk_1 σ_5 v1_3
          · intro k_2 hk_2
            exact (w_X3_doesDue_49 hd a0 v1_1 v2 v3 k_2 hk_2) FU σ_3 0
        · refine V_aload_n hC dX3_doesDue_28 rfl ?_
          refine V_iconst (v := 1) hC dX3_doesDue_29 rfl ?_
          refine V_aload_n hC dX3_doesDue_30 rfl ?_
          refine V_iconst (v := 1) hC dX3_doesDue_31 rfl ?_
          refine V_iald hC dX3_doesDue_32 ?_
          refine V_aload_n hC dX3_doesDue_33 rfl ?_
          refine V_iload_n hC dX3_doesDue_34 rfl ?_
          refine V_iconst (v := 1) hC dX3_doesDue_35 rfl ?_
          refine V_iadd hC dX3_doesDue_36 ?_
          refine V_iald hC dX3_doesDue_37 ?_
          refine V_iadd hC dX3_doesDue_38 ?_
          refine V_callS_PI (As := [.int ((gi σ_3 a0 (Int32.toNatClampNeg 1)) + (gi σ_3 a0 (Int32.toNatClampNeg (v3 + 1))))]) (rest := [.int 1, .ref a0]) (d' := 0) hC dX3_doesDue_39 1 (lw_S q1690 q1691 q87 q1692) (by decide +kernel) rfl rfl (Nat.le_of_ble_eq_true rfl) (Nat.le_trans (by decide) hd) (by decide) vMP_l (fun _ h => c_X3_put (Nat.le_refl _) h) (fun r => ?_)
          refine V_iast hC dX3_doesDue_42 (fun σ_8 => ?_)
          refine V_goto (tgt := 80) hC dX3_doesDue_43 (by decide) ?_
          refine V_clr [3] (ls' := [some (.ref a0), some (.int v1_1), some (.int v2), none, none]) rfl ?_
          exact hk_1 σ_8 v1_1
theorem w_X3_doesDue {l : Launch} {d n0 s0 : Nat} (hd : 1 ≤ d) (σ : vMem) (a0 : Nat) : V (P_X3_doesDue l d n0 s0) (vEmb eV) σ 0 [some (.ref a0), none, none, none, none] [] (f_X3_doesDue σ a0) := by
  have hC : vPx (P_X3_doesDue l d n0 s0) cX3_doesDue 5 "NobodyBeenAftModel" none d := vMP_cx
  refine V_eq (f_X3_doesDue.eq_1 ..) ?_
  refine V_iconst (v := 0) hC dX3_doesDue_0 rfl ?_
  refine V_istore_n (ls' := [some (.ref a0), some (.int 0), none, none, none]) hC dX3_doesDue_1 (by decide) rfl rfl ?_
  refine V_iconst (v := 0) hC dX3_doesDue_2 rfl ?_
  refine V_istore_n (ls' := [some (.ref a0), some (.int 0), some (.int 0), none, none]) hC dX3_doesDue_3 (by decide) rfl rfl ?_
  refine V_let (B := fun k => ∀ (σ_1 : vMem), ∀ (v1 : Int32), V (P_X3_doesDue l d n0 s0) (vEmb eV) σ_1 86 [some (.ref a0), some (.int v1), none, none, none] [] (k σ_1 v1)) ?_ ?_
  · intro σ_1 v1
    refine V_aload_n hC dX3_doesDue_86 rfl ?_
    refine V_iconst (v := 3) hC dX3_doesDue_87 rfl ?_
    refine V_iload_n hC dX3_doesDue_88 rfl ?_
    refine V_iast hC dX3_doesDue_89 (fun σ_2 => ?_)
    exact V_return dX3_doesDue_90 rfl rfl
  · intro k hk
    exact (w_X3_doesDue_4 hd a0 k hk) FU σ 0 0
theorem c_X3_doesDue {l : Launch} {d : Nat} (hd : 1 ≤ d) {σ : vMem} {a0 : Nat} {r : vMem} (h : f_X3_doesDue σ a0 = some r) : vOk l yX3_doesDue cX3_doesDue 5 none d [.ref a0] σ (.inl ((eV).1 r, (eV).2 r)) := V_method (em := eV) [some (.ref a0), none, none, none, none] (by decide +kernel) rfl (Nat.le_of_ble_eq_true rfl) (w_X3_doesDue hd σ a0) h
/-! NobodyBeenAftModel.hitsAt(II)I -/
def f_X3_hitsAt_5 (σ : vMem) (a0 : Nat) (x1 : Int32) (x2 : Int32) : Nat → Int32 → Int32 → Option (Int32)
  | 0, _, _ => none
  | n + 1, v3, v4 => cko σ a0 [3] (if (gi σ a0 6) ≤ v4 then (some v3) else cko σ a0 [3] (dr (gr σ a0 11) (fun b => cka σ b 105 v4 (vl (fun (y : Int32) => bp (f_X3_flag σ y) (fun r => vl (v3 + r) (fun v3_1 => vl (v4 + 1) (fun v4_1 => f_X3_hitsAt_5 σ a0 x1 x2 n v3_1 v4_1)))) (fun k => vl (k 0) (fun k_1 => if ¬ (gi σ b (Int32.toNatClampNeg v4)) = x1 then k_1 else cko σ a0 [3] (dr (gr σ a0 12) (fun b_1 => cka σ b_1 105 v4 (if ¬ (gi σ b_1 (Int32.toNatClampNeg v4)) = x2 then k_1 else k 1)))))))))
def f_X3_hitsAt (σ : vMem) (a0 : Nat) (x1 : Int32) (x2 : Int32) : Option (Int32) := f_X3_hitsAt_5 σ a0 x1 x2 FU 0 0
abbrev P_X3_hitsAt (l : Launch) (d n0 s0 : Nat) : vX → Prop := vMP l yX3_hitsAt cX3_hitsAt 5 (some .int) d n0 s0
theorem w_X3_hitsAt_5 {l : Launch} {d n0 s0 : Nat} (hd : 1 ≤ d) (σ : vMem) (a0 : Nat) (x1 : Int32) (x2 : Int32)  : ∀ (n : Nat) (v3 : Int32) (v4 : Int32), V (P_X3_hitsAt l d n0 s0) (vEmb (ePI σ)) σ 5 [some (.ref a0), some (.int x1), some (.int x2), some (.int v3), some (.int v4)] [] (f_X3_hitsAt_5 σ a0 x1 x2 n v3 v4) := by
  have hC : vPx (P_X3_hitsAt l d n0 s0) cX3_hitsAt 5 "NobodyBeenAftModel" (some .int) d := vMP_cx
  intro n
  induction n with
  | zero =>
    intro v3 v4
    exact V_none
  | succ n ih =>
    intro v3 v4
    refine V_eq (f_X3_hitsAt_5.eq_2 ..) ?_
    refine V_iload hC dX3_hitsAt_5 rfl ?_
    refine V_aload_n hC dX3_hitsAt_7 rfl ?_
    refine g_X3_196 hC dX3_hitsAt_8 ?_
    refine V_icmp_ge (tgt := 53) hC dX3_hitsAt_11 (by decide) ?_ ?_
    · refine V_iload_n hC dX3_hitsAt_53 rfl ?_
      exact V_ireturn dX3_hitsAt_54 rfl rfl
    · refine V_iload_n hC dX3_hitsAt_14 rfl ?_
      refine V_aload_n hC dX3_hitsAt_15 rfl ?_
      refine g_X3_25 hC dX3_hitsAt_16 (fun b => ?_)
      refine V_iload hC dX3_hitsAt_19 rfl ?_
      refine V_iald hC dX3_hitsAt_21 ?_
      refine V_iload_n hC dX3_hitsAt_22 rfl ?_
      refine V_let (B := fun k => ∀ (y : Int32), V (P_X3_hitsAt l d n0 s0) (vEmb (ePI σ)) σ 42 [some (.ref a0), some (.int x1), some (.int x2), none, some (.int v4)] [.int y, .int v3] (k y)) ?_ ?_
      · intro y
        refine V_callS_PI (As := [.int y]) (rest := [.int v3]) (d' := 0) hC dX3_hitsAt_42 1 (lw_S q1478 q1479 q87 q1480) (by decide +kernel) rfl rfl (Nat.le_of_ble_eq_true rfl) (Nat.le_trans (by decide) hd) (by decide) vMP_l (fun _ h => c_X3_flag (Nat.le_refl _) h) (fun r => ?_)
        refine V_iadd hC dX3_hitsAt_45 ?_
        refine V_istore_nL (ls' := fun v3_1 => [some (.ref a0), some (.int x1), some (.int x2), some (.int v3_1), some (.int v4)]) hC dX3_hitsAt_46 (by decide) rfl (fun _ => rfl) (fun v3_1 => ?_)
        refine V_iincL (v := v4 + 1) (ls' := fun v4_1 => [some (.ref a0), some (.int x1), some (.int x2), some (.int v3_1), some (.int v4_1)]) hC dX3_hitsAt_47 rfl (by decide) rfl rfl (fun _ => rfl) (fun v4_1 => ?_)
        refine V_goto (tgt := 5) hC dX3_hitsAt_50 (by decide) ?_
        exact ih v3_1 v4_1
      · intro k hk
        refine V_let (B := fun k_1 => V (P_X3_hitsAt l d n0 s0) (vEmb (ePI σ)) σ 41 [some (.ref a0), some (.int x1), some (.int x2), none, some (.int v4)] [.int v3] (k_1)) ?_ ?_
        · skip
          refine V_iconst (v := 0) hC dX3_hitsAt_41 rfl ?_
          exact hk 0
        · intro k_1 hk_1
          refine V_icmp_ne (tgt := 41) hC dX3_hitsAt_23 (by decide) ?_ ?_
          · refine V_clr [3] (ls' := [some (.ref a0), some (.int x1), some (.int x2), none, some (.int v4)]) rfl ?_
            exact hk_1
          · refine V_aload_n hC dX3_hitsAt_26 rfl ?_
            refine g_X3_28 hC dX3_hitsAt_27 (fun b_1 => ?_)
            refine V_iload hC dX3_hitsAt_30 rfl ?_
            refine V_iald hC dX3_hitsAt_32 ?_
            refine V_iload_n hC dX3_hitsAt_33 rfl ?_
            refine V_icmp_ne (tgt := 41) hC dX3_hitsAt_34 (by decide) ?_ ?_
            · refine V_clr [3] (ls' := [some (.ref a0), some (.int x1), some (.int x2), none, some (.int v4)]) rfl ?_
              exact hk_1
            · refine V_iconst (v := 1) hC dX3_hitsAt_37 rfl ?_
              refine V_goto (tgt := 42) hC dX3_hitsAt_38 (by decide) ?_
              refine V_clr [3] (ls' := [some (.ref a0), some (.int x1), some (.int x2), none, some (.int v4)]) rfl ?_
              exact hk 1
theorem w_X3_hitsAt {l : Launch} {d n0 s0 : Nat} (hd : 1 ≤ d) (σ : vMem) (a0 : Nat) (x1 : Int32) (x2 : Int32) : V (P_X3_hitsAt l d n0 s0) (vEmb (ePI σ)) σ 0 [some (.ref a0), some (.int x1), some (.int x2), none, none] [] (f_X3_hitsAt σ a0 x1 x2) := by
  have hC : vPx (P_X3_hitsAt l d n0 s0) cX3_hitsAt 5 "NobodyBeenAftModel" (some .int) d := vMP_cx
  refine V_eq (f_X3_hitsAt.eq_1 ..) ?_
  refine V_iconst (v := 0) hC dX3_hitsAt_0 rfl ?_
  refine V_istore_n (ls' := [some (.ref a0), some (.int x1), some (.int x2), some (.int 0), none]) hC dX3_hitsAt_1 (by decide) rfl rfl ?_
  refine V_iconst (v := 0) hC dX3_hitsAt_2 rfl ?_
  refine V_istore (ls' := [some (.ref a0), some (.int x1), some (.int x2), some (.int 0), some (.int 0)]) hC dX3_hitsAt_3 (by decide) rfl rfl ?_
  exact (w_X3_hitsAt_5 hd σ a0 x1 x2) FU 0 0
theorem c_X3_hitsAt {l : Launch} {d : Nat} (hd : 1 ≤ d) {σ : vMem} {a0 : Nat} {x1 : Int32} {x2 : Int32} {r : Int32} (h : f_X3_hitsAt σ a0 x1 x2 = some r) : vOk l yX3_hitsAt cX3_hitsAt 5 (some .int) d [.ref a0, .int x1, .int x2] σ (.inl (((ePI σ)).1 r, ((ePI σ)).2 r)) := V_method (em := (ePI σ)) [some (.ref a0), some (.int x1), some (.int x2), none, none] (by decide +kernel) rfl (Nat.le_of_ble_eq_true rfl) (w_X3_hitsAt hd σ a0 x1 x2) h
/-! NobodyBeenAftModel.stepGoes([I)V -/
def f_X3_stepGoes_41 (a0 : Nat) (a1 : Nat) : Nat → vMem → Int32 → Option (vMem)
  | 0, _, _ => none
  | n + 1, σ_5, v3 => cko σ_5 a0 [3] (if (gi σ_5 a0 7) ≤ v3 then (some σ_5) else cka σ_5 a1 105 (41 + v3) (cko σ_5 a0 [3] (dr (gr σ_5 a0 13) (fun b => cka σ_5 b 105 v3 (vl (fun (y : Int32) => cka σ_5 a1 105 (49 + v3) (bp (f_X3_flag σ_5 y) (fun r_1 => cka σ_5 a1 105 (49 + v3) (vl (si σ_5 a1 (Int32.toNatClampNeg (49 + v3)) ((gi σ_5 a1 (Int32.toNatClampNeg (49 + v3))) + r_1)) (fun σ_6 => cko σ_6 a0 [3] (bp (f_X3_flag σ_6 y) (fun r_2 => cko σ_6 a0 [3] (vl (si σ_6 a0 32 ((gi σ_6 a0 32) + r_2)) (fun σ_7 => vl (fun (y_1 : Int32) => cka σ_7 a1 105 (41 + v3) (vl (si σ_7 a1 (Int32.toNatClampNeg (41 + v3)) y_1) (fun σ_8 => vl (v3 + 1) (fun v3_1 => f_X3_stepGoes_41 a0 a1 n σ_8 v3_1)))) (fun k_1 => if y = 0 then (cka σ_7 a1 105 (41 + v3) (cko σ_7 a0 [3] (dr (gr σ_7 a0 13) (fun b_1 => cka σ_7 b_1 105 v3 (k_1 ((gi σ_7 a1 (Int32.toNatClampNeg (41 + v3))) - (gi σ_7 b_1 (Int32.toNatClampNeg v3)))))))) else k_1 0)))))))))) (fun k => if (gi σ_5 b (Int32.toNatClampNeg v3)) ≤ (gi σ_5 a1 (Int32.toNatClampNeg (41 + v3))) then (k 0) else k 1))))))
def f_X3_stepGoes (σ : vMem) (a0 : Nat) (a1 : Nat) : Option (vMem) := cka σ a1 105 0 (cka σ a1 105 0 (vl (si σ a1 (Int32.toNatClampNeg 0) ((gi σ a1 (Int32.toNatClampNeg 0)) + 1)) (fun σ_1 => bv (f_X3_doesDue σ_1 a1) (fun σ_2 => cka σ_2 a1 105 0 (cka σ_2 a1 105 1 (cko σ_2 a0 [3] (bp (f_X3_hitsAt σ_2 a0 (gi σ_2 a1 (Int32.toNatClampNeg 0)) (gi σ_2 a1 (Int32.toNatClampNeg 1))) (fun r => cka σ_2 a1 105 2 (cka σ_2 a1 105 2 (vl (si σ_2 a1 (Int32.toNatClampNeg 2) ((gi σ_2 a1 (Int32.toNatClampNeg 2)) + r)) (fun σ_3 => cko σ_3 a0 [3] (cko σ_3 a0 [3] (vl (si σ_3 a0 31 ((gi σ_3 a0 31) + r)) (fun σ_4 => f_X3_stepGoes_41 a0 a1 FU σ_4 0))))))))))))))
abbrev P_X3_stepGoes (l : Launch) (d n0 s0 : Nat) : vX → Prop := vMP l yX3_stepGoes cX3_stepGoes 5 none d n0 s0
theorem w_X3_stepGoes_41 {l : Launch} {d n0 s0 : Nat} (hd : 2 ≤ d) (a0 : Nat) (a1 : Nat)  : ∀ (n : Nat) (σ_5 : vMem) (v3 : Int32), V (P_X3_stepGoes l d n0 s0) (vEmb eV) σ_5 41 [some (.ref a0), some (.ref a1), none, some (.int v3), none] [] (f_X3_stepGoes_41 a0 a1 n σ_5 v3) := by
  have hC : vPx (P_X3_stepGoes l d n0 s0) cX3_stepGoes 5 "NobodyBeenAftModel" none d := vMP_cx
  intro n
  induction n with
  | zero =>
    intro σ_5 v3
    exact V_none
  | succ n ih =>
    intro σ_5 v3
    refine V_eq (f_X3_stepGoes_41.eq_2 ..) ?_
    refine V_iload_n hC dX3_stepGoes_41 rfl ?_
    refine V_aload_n hC dX3_stepGoes_42 rfl ?_
    refine g_X3_117 hC dX3_stepGoes_43 ?_
    refine V_icmp_ge (tgt := 133) hC dX3_stepGoes_46 (by decide) ?_ ?_
    · exact V_return dX3_stepGoes_133 rfl rfl
    · refine V_aload_n hC dX3_stepGoes_49 rfl ?_
      refine V_bipush (v := 41) hC dX3_stepGoes_50 rfl ?_
      refine V_iload_n hC dX3_stepGoes_52 rfl ?_
      refine V_iadd hC dX3_stepGoes_53 ?_
      refine V_iald hC dX3_stepGoes_54 ?_
      refine V_aload_n hC dX3_stepGoes_55 rfl ?_
      refine g_X3_31 hC dX3_stepGoes_56 (fun b => ?_)
      refine V_iload_n hC dX3_stepGoes_59 rfl ?_
      refine V_iald hC dX3_stepGoes_60 ?_
      refine V_let (B := fun k => ∀ (y : Int32), V (P_X3_stepGoes l d n0 s0) (vEmb eV) σ_5 69 [some (.ref a0), some (.ref a1), none, some (.int v3), none] [.int y] (k y)) ?_ ?_
      · intro y
        refine V_istore (ls' := [some (.ref a0), some (.ref a1), none, some (.int v3), some (.int y)]) hC dX3_stepGoes_69 (by decide) rfl rfl ?_
        refine V_aload_n hC dX3_stepGoes_71 rfl ?_
        refine V_bipush (v := 49) hC dX3_stepGoes_72 rfl ?_
        refine V_iload_n hC dX3_stepGoes_74 rfl ?_
        refine V_iadd hC dX3_stepGoes_75 ?_
        refine V_dup2 hC dX3_stepGoes_76 rfl rfl ?_
        refine V_iald hC dX3_stepGoes_77 ?_
        refine V_iload hC dX3_stepGoes_78 rfl ?_
        refine V_callS_PI (As := [.int y]) (rest := [.int (gi σ_5 a1 (Int32.toNatClampNeg (49 + v3))), .int (49 + v3), .ref a1]) (d' := 0) hC dX3_stepGoes_80 1 (lw_S q1478 q1479 q87 q1480) (by decide +kernel) rfl rfl (Nat.le_of_ble_eq_true rfl) (Nat.le_trans (by decide) hd) (by decide) vMP_l (fun _ h => c_X3_flag (Nat.le_refl _) h) (fun r_1 => ?_)
        refine V_iadd hC dX3_stepGoes_83 ?_
        refine V_iast hC dX3_stepGoes_84 (fun σ_6 => ?_)
        refine V_aload_n hC dX3_stepGoes_85 rfl ?_
        refine V_dup hC dX3_stepGoes_86 rfl ?_
        refine g_X3_279 hC dX3_stepGoes_87 ?_
        refine V_iload hC dX3_stepGoes_90 rfl ?_
        refine V_callS_PI (As := [.int y]) (rest := [.int (gi σ_6 a0 32), .ref a0]) (d' := 0) hC dX3_stepGoes_92 1 (lw_S q1478 q1479 q87 q1480) (by decide +kernel) rfl rfl (Nat.le_of_ble_eq_true rfl) (Nat.le_trans (by decide) hd) (by decide) vMP_l (fun _ h => c_X3_flag (Nat.le_refl _) h) (fun r_2 => ?_)
        refine V_iadd hC dX3_stepGoes_95 ?_
        refine p_X3_279 hC dX3_stepGoes_96 (fun σ_7 => ?_)
        refine V_aload_n hC dX3_stepGoes_99 rfl ?_
        refine V_bipush (v := 41) hC dX3_stepGoes_100 rfl ?_
        refine V_iload_n hC dX3_stepGoes_102 rfl ?_
        refine V_iadd hC dX3_stepGoes_103 ?_
        refine V_iload hC dX3_stepGoes_104 rfl ?_
        refine V_let (B := fun k_1 => ∀ (y_1 : Int32), V (P_X3_stepGoes l d n0 s0) (vEmb eV) σ_7 126 [some (.ref a0), some (.ref a1), none, some (.int v3), none] [.int y_1, .int (41 + v3), .ref a1] (k_1 y_1)) ?_ ?_
        · intro y_1
          refine V_iast hC dX3_stepGoes_126 (fun σ_8 => ?_)
          refine V_iincL (v := v3 + 1) (ls' := fun v3_1 => [some (.ref a0), some (.ref a1), none, some (.int v3_1), none]) hC dX3_stepGoes_127 rfl (by decide) rfl rfl (fun _ => rfl) (fun v3_1 => ?_)
          refine V_goto (tgt := 41) hC dX3_stepGoes_130 (by decide) ?_
          exact ih σ_8 v3_1
        · intro k_1 hk_1
          refine V_if_eq (tgt := 113) hC dX3_stepGoes_106 (by decide) ?_ ?_
          · refine V_aload_n hC dX3_stepGoes_113 rfl ?_
            refine V_bipush (v := 41) hC dX3_stepGoes_114 rfl ?_
            refine V_iload_n hC dX3_stepGoes_116 rfl ?_
            refine V_iadd hC dX3_stepGoes_117 ?_
            refine V_iald hC dX3_stepGoes_118 ?_
            refine V_aload_n hC dX3_stepGoes_119 rfl ?_
            refine g_X3_31 hC dX3_stepGoes_120 (fun b_1 => ?_)
            refine V_iload_n hC dX3_stepGoes_123 rfl ?_
            refine V_iald hC dX3_stepGoes_124 ?_
            refine V_isub hC dX3_stepGoes_125 ?_
            refine V_clr [4] (ls' := [some (.ref a0), some (.ref a1), none, some (.int v3), none]) rfl ?_
            exact hk_1 ((gi σ_7 a1 (Int32.toNatClampNeg (41 + v3))) - (gi σ_7 b_1 (Int32.toNatClampNeg v3)))
          · refine V_iconst (v := 0) hC dX3_stepGoes_109 rfl ?_
            refine V_goto (tgt := 126) hC dX3_stepGoes_110 (by decide) ?_
            refine V_clr [4] (ls' := [some (.ref a0), some (.ref a1), none, some (.int v3), none]) rfl ?_
            exact hk_1 0
      · intro k hk
        refine V_icmp_ge (tgt := 68) hC dX3_stepGoes_61 (by decide) ?_ ?_
        · refine V_iconst (v := 0) hC dX3_stepGoes_68 rfl ?_
          exact hk 0
        · refine V_iconst (v := 1) hC dX3_stepGoes_64 rfl ?_
          refine V_goto (tgt := 69) hC dX3_stepGoes_65 (by decide) ?_
          exact hk 1
theorem w_X3_stepGoes {l : Launch} {d n0 s0 : Nat} (hd : 2 ≤ d) (σ : vMem) (a0 : Nat) (a1 : Nat) : V (P_X3_stepGoes l d n0 s0) (vEmb eV) σ 0 [some (.ref a0), some (.ref a1), none, none, none] [] (f_X3_stepGoes σ a0 a1) := by
  have hC : vPx (P_X3_stepGoes l d n0 s0) cX3_stepGoes 5 "NobodyBeenAftModel" none d := vMP_cx
  refine V_eq (f_X3_stepGoes.eq_1 ..) ?_
  refine V_aload_n hC dX3_stepGoes_0 rfl ?_
  refine V_iconst (v := 0) hC dX3_stepGoes_1 rfl ?_
  refine V_dup2 hC dX3_stepGoes_2 rfl rfl ?_
  refine V_iald hC dX3_stepGoes_3 ?_
  refine V_iconst (v := 1) hC dX3_stepGoes_4 rfl ?_
  refine V_iadd hC dX3_stepGoes_5 ?_
  refine V_iast hC dX3_stepGoes_6 (fun σ_1 => ?_)
  refine V_aload_n hC dX3_stepGoes_7 rfl ?_
  refine V_callS_V (As := [.ref a1]) (rest := []) (d' := 1) hC dX3_stepGoes_8 1 (lw_S q1687 q1688 q87 q1689) (by decide +kernel) rfl rfl (Nat.le_of_ble_eq_true rfl) (Nat.le_trans (by decide) hd) (by decide) vMP_l (fun _ h => c_X3_doesDue (Nat.le_refl _) h) (fun σ_2 => ?_)
  refine V_aload_n hC dX3_stepGoes_11 rfl ?_
  refine V_aload_n hC dX3_stepGoes_12 rfl ?_
  refine V_iconst (v := 0) hC dX3_stepGoes_13 rfl ?_
  refine V_iald hC dX3_stepGoes_14 ?_
  refine V_aload_n hC dX3_stepGoes_15 rfl ?_
  refine V_iconst (v := 1) hC dX3_stepGoes_16 rfl ?_
  refine V_iald hC dX3_stepGoes_17 ?_
  refine V_cko (fun hm => V_callV_PI (c := 3) (As := [.int (gi σ_2 a1 (Int32.toNatClampNeg 0)), .int (gi σ_2 a1 (Int32.toNatClampNeg 1))]) (rest := []) (d' := 1) hC dX3_stepGoes_18 2 (lw_V q1693 q1695 qs58 q87 q1696) (by decide +kernel) (List.mem_singleton.mp hm) (by decide) (by decide) rfl rfl rfl (Nat.le_of_ble_eq_true rfl) (Nat.le_trans (by decide) hd) (by decide) vMP_l (fun _ h => c_X3_hitsAt (Nat.le_refl _) h) (fun r => ?_))
  refine V_istore_n (ls' := [some (.ref a0), some (.ref a1), some (.int r), none, none]) hC dX3_stepGoes_21 (by decide) rfl rfl ?_
  refine V_aload_n hC dX3_stepGoes_22 rfl ?_
  refine V_iconst (v := 2) hC dX3_stepGoes_23 rfl ?_
  refine V_dup2 hC dX3_stepGoes_24 rfl rfl ?_
  refine V_iald hC dX3_stepGoes_25 ?_
  refine V_iload_n hC dX3_stepGoes_26 rfl ?_
  refine V_iadd hC dX3_stepGoes_27 ?_
  refine V_iast hC dX3_stepGoes_28 (fun σ_3 => ?_)
  refine V_aload_n hC dX3_stepGoes_29 rfl ?_
  refine V_dup hC dX3_stepGoes_30 rfl ?_
  refine g_X3_276 hC dX3_stepGoes_31 ?_
  refine V_iload_n hC dX3_stepGoes_34 rfl ?_
  refine V_iadd hC dX3_stepGoes_35 ?_
  refine p_X3_276 hC dX3_stepGoes_36 (fun σ_4 => ?_)
  refine V_iconst (v := 0) hC dX3_stepGoes_39 rfl ?_
  refine V_istore_n (ls' := [some (.ref a0), some (.ref a1), some (.int r), some (.int 0), none]) hC dX3_stepGoes_40 (by decide) rfl rfl ?_
  refine V_clr [2] (ls' := [some (.ref a0), some (.ref a1), none, some (.int 0), none]) rfl ?_
  exact (w_X3_stepGoes_41 hd a0 a1) FU σ_4 0
theorem c_X3_stepGoes {l : Launch} {d : Nat} (hd : 2 ≤ d) {σ : vMem} {a0 : Nat} {a1 : Nat} {r : vMem} (h : f_X3_stepGoes σ a0 a1 = some r) : vOk l yX3_stepGoes cX3_stepGoes 5 none d [.ref a0, .ref a1] σ (.inl ((eV).1 r, (eV).2 r)) := V_method (em := eV) [some (.ref a0), some (.ref a1), none, none, none] (by decide +kernel) rfl (Nat.le_of_ble_eq_true rfl) (w_X3_stepGoes hd σ a0 a1) h
/-! NobodyBeenAftModel.enters(J)V -/
def f_X3_enters (σ : vMem) (a0 : Nat) (x1 : Int64) : Option (vMem) := cko σ a0 [3] (dr (gr σ a0 2) (fun b => cko σ a0 [3] (cka σ b 106 (gi σ a0 1) (vl (sl σ b (Int32.toNatClampNeg (gi σ a0 1)) x1) (fun σ_1 => cko σ_1 a0 [3] (cko σ_1 a0 [3] (vl (si σ_1 a0 1 ((gi σ_1 a0 1) + 1)) (fun σ_2 => some σ_2))))))))
abbrev P_X3_enters (l : Launch) (d n0 s0 : Nat) : vX → Prop := vMP l yX3_enters cX3_enters 3 none d n0 s0
theorem w_X3_enters {l : Launch} {d n0 s0 : Nat} (hd : 0 ≤ d) (σ : vMem) (a0 : Nat) (x1 : Int64) : V (P_X3_enters l d n0 s0) (vEmb eV) σ 0 [some (.ref a0), some (.long x1), none] [] (f_X3_enters σ a0 x1) := by
  have hC : vPx (P_X3_enters l d n0 s0) cX3_enters 3 "NobodyBeenAftModel" none d := vMP_cx
  refine V_eq (f_X3_enters.eq_1 ..) ?_
  refine V_aload_n hC dX3_enters_0 rfl ?_
  refine g_X3_9 hC dX3_enters_1 (fun b => ?_)
  refine V_aload_n hC dX3_enters_4 rfl ?_
  refine g_X3_110 hC dX3_enters_5 ?_
  refine V_lload_n hC dX3_enters_8 rfl ?_
  refine V_last hC dX3_enters_9 (fun σ_1 => ?_)
  refine V_aload_n hC dX3_enters_10 rfl ?_
  refine V_dup hC dX3_enters_11 rfl ?_
  refine g_X3_110 hC dX3_enters_12 ?_
  refine V_iconst (v := 1) hC dX3_enters_15 rfl ?_
  refine V_iadd hC dX3_enters_16 ?_
  refine p_X3_110 hC dX3_enters_17 (fun σ_2 => ?_)
  exact V_return dX3_enters_20 rfl rfl
theorem c_X3_enters {l : Launch} {d : Nat} (hd : 0 ≤ d) {σ : vMem} {a0 : Nat} {x1 : Int64} {r : vMem} (h : f_X3_enters σ a0 x1 = some r) : vOk l yX3_enters cX3_enters 3 none d [.ref a0, .long x1] σ (.inl ((eV).1 r, (eV).2 r)) := V_method (em := eV) [some (.ref a0), some (.long x1), none] (by decide +kernel) rfl (Nat.le_of_ble_eq_true rfl) (w_X3_enters hd σ a0 x1) h
/-! NobodyBeenAftModel.steps(I)I -/
def f_X3_steps_29 (a0 : Nat) (x1 : Int32) (k : vMem → Option (Int32 × vMem)) : Nat → vMem → Int32 → Option (Int32 × vMem)
  | 0, _, _ => none
  | n + 1, σ_9, v2 => if x1 ≤ v2 then (k σ_9) else cko σ_9 a0 [3] (dr (gr σ_9 a0 14) (fun b_1 => cko σ_9 a0 [3] (bv (f_X3_stepGoes σ_9 a0 b_1) (fun σ_10 => vl (v2 + 1) (fun v2_1 => f_X3_steps_29 a0 x1 k n σ_10 v2_1)))))
def f_X3_steps (σ : vMem) (a0 : Nat) (x1 : Int32) : Option (Int32 × vMem) := cko σ a0 [3] (vl (si σ a0 0 0) (fun σ_1 => bp (f_X3_in σ_1 (Int32.toInt64 x1) 0 60) (fun r => if ¬ r = 0 then (cko σ_1 a0 [3] (bv (f_X3_putsBy σ_1 a0) (fun σ_2 => cko σ_2 a0 [3] (bv (f_X3_startsCounting σ_2 a0) (fun σ_3 => vl (fun (σ_4 : vMem) => cko σ_4 a0 [3] (vl (si σ_4 a0 1 0) (fun σ_5 => cko σ_5 a0 [3] (cko σ_5 a0 [3] (bv (f_X3_enters σ_5 a0 (Int32.toInt64 (gi σ_5 a0 31))) (fun σ_6 => cko σ_6 a0 [3] (cko σ_6 a0 [3] (bv (f_X3_enters σ_6 a0 (Int32.toInt64 (gi σ_6 a0 32))) (fun σ_7 => cko σ_7 a0 [3] (dr (gr σ_7 a0 14) (fun b => cka σ_7 b 105 1 (cko σ_7 a0 [3] (bd (f_X3_adds σ_7 a0 (gi σ_7 b (Int32.toNatClampNeg 1))) (fun r_1 σ_8 => some (r_1, σ_8))))))))))))))) (fun k => f_X3_steps_29 a0 x1 k FU σ_3 0)))))) else some ((-1), σ_1))))
abbrev P_X3_steps (l : Launch) (d n0 s0 : Nat) : vX → Prop := vMP l yX3_steps cX3_steps 3 (some .int) d n0 s0
theorem w_X3_steps_29 {l : Launch} {d n0 s0 : Nat} (hd : 3 ≤ d) (a0 : Nat) (x1 : Int32) (k : vMem → Option (Int32 × vMem)) (hk : ∀ (σ_4 : vMem), V (P_X3_steps l d n0 s0) (vEmb eI) σ_4 48 [some (.ref a0), none, none] [] (k σ_4)) : ∀ (n : Nat) (σ_9 : vMem) (v2 : Int32), V (P_X3_steps l d n0 s0) (vEmb eI) σ_9 29 [some (.ref a0), some (.int x1), some (.int v2)] [] (f_X3_steps_29 a0 x1 k n σ_9 v2) := by
  have hC : vPx (P_X3_steps l d n0 s0) cX3_steps 3 "NobodyBeenAftModel" (some .int) d := vMP_cx
  intro n
  induction n with
  | zero =>
    intro σ_9 v2
    exact V_none
  | succ n ih =>
    intro σ_9 v2
    refine V_eq (f_X3_steps_29.eq_2 ..) ?_
    refine V_iload_n hC dX3_steps_29 rfl ?_
    refine V_iload_n hC dX3_steps_30 rfl ?_
    refine V_icmp_ge (tgt := 48) hC dX3_steps_31 (by decide) ?_ ?_
    · refine V_clr [1, 2] (ls' := [some (.ref a0), none, none]) rfl ?_
      exact hk σ_9
    · refine V_aload_n hC dX3_steps_34 rfl ?_
      refine V_aload_n hC dX3_steps_35 rfl ?_
      refine g_X3_34 hC dX3_steps_36 (fun b_1 => ?_)
      refine V_cko (fun hm => V_callV_V (c := 3) (As := [.ref b_1]) (rest := []) (d' := 2) hC dX3_steps_39 1 (lw_V q1683 q1685 qs57 q87 q1686) (by decide +kernel) (List.mem_singleton.mp hm) (by decide) (by decide) rfl rfl rfl (Nat.le_of_ble_eq_true rfl) (Nat.le_trans (by decide) hd) (by decide) vMP_l (fun _ h => c_X3_stepGoes (Nat.le_refl _) h) (fun σ_10 => ?_))
      refine V_iincL (v := v2 + 1) (ls' := fun v2_1 => [some (.ref a0), some (.int x1), some (.int v2_1)]) hC dX3_steps_42 rfl (by decide) rfl rfl (fun _ => rfl) (fun v2_1 => ?_)
      refine V_goto (tgt := 29) hC dX3_steps_45 (by decide) ?_
      exact ih σ_10 v2_1
theorem w_X3_steps {l : Launch} {d n0 s0 : Nat} (hd : 3 ≤ d) (σ : vMem) (a0 : Nat) (x1 : Int32) : V (P_X3_steps l d n0 s0) (vEmb eI) σ 0 [some (.ref a0), some (.int x1), none] [] (f_X3_steps σ a0 x1) := by
  have hC : vPx (P_X3_steps l d n0 s0) cX3_steps 3 "NobodyBeenAftModel" (some .int) d := vMP_cx
  refine V_eq (f_X3_steps.eq_1 ..) ?_
  refine V_aload_n hC dX3_steps_0 rfl ?_
  refine V_iconst (v := 0) hC dX3_steps_1 rfl ?_
  refine p_X3_103 hC dX3_steps_2 (fun σ_1 => ?_)
  refine V_iload_n hC dX3_steps_5 rfl ?_
  refine V_i2l hC dX3_steps_6 ?_
  refine V_lconst (v := 0) hC dX3_steps_7 rfl ?_
  refine V_ldc2 hC dX3_steps_8 q1678 ?_
  refine V_callS_PI (As := [.long (Int32.toInt64 x1), .long 0, .long 60]) (rest := []) (d' := 0) hC dX3_steps_11 3 (lw_S q1448 q1449 q87 q1450) (by decide +kernel) rfl rfl (Nat.le_of_ble_eq_true rfl) (Nat.le_trans (by decide) hd) (by decide) vMP_l (fun _ h => c_X3_in (Nat.le_refl _) h) (fun r => ?_)
  refine V_if_ne (tgt := 19) hC dX3_steps_14 (by decide) ?_ ?_
  · refine V_aload_n hC dX3_steps_19 rfl ?_
    refine V_cko (fun hm => V_callV_V (c := 3) (As := []) (rest := []) (d' := 0) hC dX3_steps_20 0 (lw_V q1636 q1638 qs49 q87 q1639) (by decide +kernel) (List.mem_singleton.mp hm) (by decide) (by decide) rfl rfl rfl (Nat.le_of_ble_eq_true rfl) (Nat.le_trans (by decide) hd) (by decide) vMP_l (fun _ h => c_X3_putsBy (Nat.le_refl _) h) (fun σ_2 => ?_))
    refine V_aload_n hC dX3_steps_23 rfl ?_
    refine V_cko (fun hm => V_callV_V (c := 3) (As := []) (rest := []) (d' := 0) hC dX3_steps_24 0 (lw_V q1679 q1681 qs56 q87 q1682) (by decide +kernel) (List.mem_singleton.mp hm) (by decide) (by decide) rfl rfl rfl (Nat.le_of_ble_eq_true rfl) (Nat.le_trans (by decide) hd) (by decide) vMP_l (fun _ h => c_X3_startsCounting (Nat.le_refl _) h) (fun σ_3 => ?_))
    refine V_iconst (v := 0) hC dX3_steps_27 rfl ?_
    refine V_istore_n (ls' := [some (.ref a0), some (.int x1), some (.int 0)]) hC dX3_steps_28 (by decide) rfl rfl ?_
    refine V_let (B := fun k => ∀ (σ_4 : vMem), V (P_X3_steps l d n0 s0) (vEmb eI) σ_4 48 [some (.ref a0), none, none] [] (k σ_4)) ?_ ?_
    · intro σ_4
      refine V_aload_n hC dX3_steps_48 rfl ?_
      refine V_iconst (v := 0) hC dX3_steps_49 rfl ?_
      refine p_X3_110 hC dX3_steps_50 (fun σ_5 => ?_)
      refine V_aload_n hC dX3_steps_53 rfl ?_
      refine V_aload_n hC dX3_steps_54 rfl ?_
      refine g_X3_276 hC dX3_steps_55 ?_
      refine V_i2l hC dX3_steps_58 ?_
      refine V_cko (fun hm => V_callV_V (c := 3) (As := [.long (Int32.toInt64 (gi σ_5 a0 31))]) (rest := []) (d' := 0) hC dX3_steps_59 1 (lw_V q1697 q1699 qs59 q87 q1700) (by decide +kernel) (List.mem_singleton.mp hm) (by decide) (by decide) rfl rfl rfl (Nat.le_of_ble_eq_true rfl) (Nat.le_trans (by decide) hd) (by decide) vMP_l (fun _ h => c_X3_enters (Nat.le_refl _) h) (fun σ_6 => ?_))
      refine V_aload_n hC dX3_steps_62 rfl ?_
      refine V_aload_n hC dX3_steps_63 rfl ?_
      refine g_X3_279 hC dX3_steps_64 ?_
      refine V_i2l hC dX3_steps_67 ?_
      refine V_cko (fun hm => V_callV_V (c := 3) (As := [.long (Int32.toInt64 (gi σ_6 a0 32))]) (rest := []) (d' := 0) hC dX3_steps_68 1 (lw_V q1697 q1699 qs59 q87 q1700) (by decide +kernel) (List.mem_singleton.mp hm) (by decide) (by decide) rfl rfl rfl (Nat.le_of_ble_eq_true rfl) (Nat.le_trans (by decide) hd) (by decide) vMP_l (fun _ h => c_X3_enters (Nat.le_refl _) h) (fun σ_7 => ?_))
      refine V_aload_n hC dX3_steps_71 rfl ?_
      refine V_aload_n hC dX3_steps_72 rfl ?_
      refine g_X3_34 hC dX3_steps_73 (fun b => ?_)
      refine V_iconst (v := 1) hC dX3_steps_76 rfl ?_
      refine V_iald hC dX3_steps_77 ?_
      refine V_cko (fun hm => V_callV_I (c := 3) (As := [.int (gi σ_7 b (Int32.toNatClampNeg 1))]) (rest := []) (d' := 0) hC dX3_steps_78 1 (lw_V q1653 q1655 qs53 q87 q1656) (by decide +kernel) (List.mem_singleton.mp hm) (by decide) (by decide) rfl rfl rfl (Nat.le_of_ble_eq_true rfl) (Nat.le_trans (by decide) hd) (by decide) vMP_l (fun _ h => c_X3_adds (Nat.le_refl _) h) (fun r_1 σ_8 => ?_))
      exact V_ireturn dX3_steps_81 rfl rfl
    · intro k hk
      exact (w_X3_steps_29 hd a0 x1 k hk) FU σ_3 0
  · refine V_iconst (v := (-1)) hC dX3_steps_17 rfl ?_
    exact V_ireturn dX3_steps_18 rfl rfl
theorem c_X3_steps {l : Launch} {d : Nat} (hd : 3 ≤ d) {σ : vMem} {a0 : Nat} {x1 : Int32} {r : Int32 × vMem} (h : f_X3_steps σ a0 x1 = some r) : vOk l yX3_steps cX3_steps 3 (some .int) d [.ref a0, .int x1] σ (.inl ((eI).1 r, (eI).2 r)) := V_method (em := eI) [some (.ref a0), some (.int x1), none] (by decide +kernel) rfl (Nat.le_of_ble_eq_true rfl) (w_X3_steps hd σ a0 x1) h
/-! NobodyBeenAftModel.readsAct()Z -/
def f_X3_readsAct (σ : vMem) (a0 : Nat) : Option (Int32 × vMem) := cko σ a0 [3] (vl (gi σ a0 35) (fun v1 => cko σ a0 [3] (bd (f_X3_takesOf σ a0 (SB + 5)) (fun r σ_1 => if 0 ≤ r then (cko σ_1 a0 [3] (cko σ_1 a0 [3] (vl (si σ_1 a0 35 ((gi σ_1 a0 35) + 1)) (fun σ_2 => cko σ_2 a0 [3] (dr (gr σ_2 a0 33) (fun b => vl (fun (y : Int32) => cka σ_2 b 105 v1 (vl (si σ_2 b (Int32.toNatClampNeg v1) y) (fun σ_3 => cko σ_3 a0 [3] (dr (gr σ_3 a0 34) (fun b_1 => vl (fun (σ_4 : vMem) (y_1 : Int32) => cka σ_4 b_1 105 v1 (vl (si σ_4 b_1 (Int32.toNatClampNeg v1) y_1) (fun σ_5 => vl (some (1, σ_5)) (fun k_2 => if ¬ r = 3 then k_2 else cko σ_5 a0 [3] (dr (gr σ_5 a0 34) (fun b_2 => cka σ_5 b_2 105 v1 (if (gi σ_5 b_2 (Int32.toNatClampNeg v1)) < 0 then (some (0, σ_5)) else k_2))))))) (fun k_1 => if 3 ≤ r then (if ¬ r = 3 then (k_1 σ_3 (r - 3)) else cko σ_3 a0 [3] (bd (f_X3_number σ_3 a0 1) (fun r_1 σ_6 => k_1 σ_6 r_1))) else k_1 σ_3 (r - 1))))))) (fun k => if 3 ≤ r then (if ¬ r = 3 then (k 2) else k 1) else k 0))))))) else some (0, σ_1)))))
abbrev P_X3_readsAct (l : Launch) (d n0 s0 : Nat) : vX → Prop := vMP l yX3_readsAct cX3_readsAct 3 (some .boolean) d n0 s0
theorem w_X3_readsAct {l : Launch} {d n0 s0 : Nat} (hd : 6 ≤ d) (σ : vMem) (a0 : Nat) : V (P_X3_readsAct l d n0 s0) (vEmb eI) σ 0 [some (.ref a0), none, none] [] (f_X3_readsAct σ a0) := by
  have hC : vPx (P_X3_readsAct l d n0 s0) cX3_readsAct 3 "NobodyBeenAftModel" (some .boolean) d := vMP_cx
  refine V_eq (f_X3_readsAct.eq_1 ..) ?_
  refine V_aload_n hC dX3_readsAct_0 rfl ?_
  refine g_X3_316 hC dX3_readsAct_1 ?_
  refine V_istore_nL (ls' := fun v1 => [some (.ref a0), some (.int v1), none]) hC dX3_readsAct_4 (by decide) rfl (fun _ => rfl) (fun v1 => ?_)
  refine V_aload_n hC dX3_readsAct_5 rfl ?_
  refine V_ldcwS 5 (by decide) hC dX3_readsAct_6 rfl ?_
  refine V_cko (fun hm => V_callV_I (c := 3) (As := [.ref (SB + 5)]) (rest := []) (d' := 5) hC dX3_readsAct_9 1 (lw_V q1494 q1496 qs38 q87 q1497) (by decide +kernel) (List.mem_singleton.mp hm) (by decide) (by decide) rfl rfl rfl (Nat.le_of_ble_eq_true rfl) (Nat.le_trans (by decide) hd) (by decide) vMP_l (fun _ h => c_X3_takesOf (Nat.le_refl _) h) (fun r σ_1 => ?_))
  refine V_istore_n (ls' := [some (.ref a0), some (.int v1), some (.int r)]) hC dX3_readsAct_12 (by decide) rfl rfl ?_
  refine V_iload_n hC dX3_readsAct_13 rfl ?_
  refine V_if_ge (tgt := 19) hC dX3_readsAct_14 (by decide) ?_ ?_
  · refine V_aload_n hC dX3_readsAct_19 rfl ?_
    refine V_dup hC dX3_readsAct_20 rfl ?_
    refine g_X3_316 hC dX3_readsAct_21 ?_
    refine V_iconst (v := 1) hC dX3_readsAct_24 rfl ?_
    refine V_iadd hC dX3_readsAct_25 ?_
    refine p_X3_316 hC dX3_readsAct_26 (fun σ_2 => ?_)
    refine V_aload_n hC dX3_readsAct_29 rfl ?_
    refine g_X3_61 hC dX3_readsAct_30 (fun b => ?_)
    refine V_iload_n hC dX3_readsAct_33 rfl ?_
    refine V_iload_n hC dX3_readsAct_34 rfl ?_
    refine V_iconst (v := 3) hC dX3_readsAct_35 rfl ?_
    refine V_let (B := fun k => ∀ (y : Int32), V (P_X3_readsAct l d n0 s0) (vEmb eI) σ_2 53 [some (.ref a0), some (.int v1), some (.int r)] [.int y, .int v1, .ref b] (k y)) ?_ ?_
    · intro y
      refine V_iast hC dX3_readsAct_53 (fun σ_3 => ?_)
      refine V_aload_n hC dX3_readsAct_54 rfl ?_
      refine g_X3_64 hC dX3_readsAct_55 (fun b_1 => ?_)
      refine V_iload_n hC dX3_readsAct_58 rfl ?_
      refine V_iload_n hC dX3_readsAct_59 rfl ?_
      refine V_iconst (v := 3) hC dX3_readsAct_60 rfl ?_
      refine V_let (B := fun k_1 => ∀ (σ_4 : vMem), ∀ (y_1 : Int32), V (P_X3_readsAct l d n0 s0) (vEmb eI) σ_4 86 [some (.ref a0), some (.int v1), some (.int r)] [.int y_1, .int v1, .ref b_1] (k_1 σ_4 y_1)) ?_ ?_
      · intro σ_4 y_1
        refine V_iast hC dX3_readsAct_86 (fun σ_5 => ?_)
        refine V_iload_n hC dX3_readsAct_87 rfl ?_
        refine V_iconst (v := 3) hC dX3_readsAct_88 rfl ?_
        refine V_let (B := fun k_2 => V (P_X3_readsAct l d n0 s0) (vEmb eI) σ_5 101 [none, none, none] [] (k_2)) ?_ ?_
        · skip
          refine V_iconst (v := 1) hC dX3_readsAct_101 rfl ?_
          refine V_goto (tgt := 106) hC dX3_readsAct_102 (by decide) ?_
          exact V_zreturn rfl dX3_readsAct_106 rfl rfl
        · intro k_2 hk_2
          refine V_icmp_ne (tgt := 101) hC dX3_readsAct_89 (by decide) ?_ ?_
          · refine V_clr [0, 1, 2] (ls' := [none, none, none]) rfl ?_
            exact hk_2
          · refine V_aload_n hC dX3_readsAct_92 rfl ?_
            refine g_X3_64 hC dX3_readsAct_93 (fun b_2 => ?_)
            refine V_iload_n hC dX3_readsAct_96 rfl ?_
            refine V_iald hC dX3_readsAct_97 ?_
            refine V_if_lt (tgt := 105) hC dX3_readsAct_98 (by decide) ?_ ?_
            · refine V_iconst (v := 0) hC dX3_readsAct_105 rfl ?_
              exact V_zreturn rfl dX3_readsAct_106 rfl rfl
            · refine V_clr [0, 1, 2] (ls' := [none, none, none]) rfl ?_
              exact hk_2
      · intro k_1 hk_1
        refine V_icmp_ge (tgt := 70) hC dX3_readsAct_61 (by decide) ?_ ?_
        · refine V_iload_n hC dX3_readsAct_70 rfl ?_
          refine V_iconst (v := 3) hC dX3_readsAct_71 rfl ?_
          refine V_icmp_ne (tgt := 83) hC dX3_readsAct_72 (by decide) ?_ ?_
          · refine V_iload_n hC dX3_readsAct_83 rfl ?_
            refine V_iconst (v := 3) hC dX3_readsAct_84 rfl ?_
            refine V_isub hC dX3_readsAct_85 ?_
            exact hk_1 σ_3 (r - 3)
          · refine V_aload_n hC dX3_readsAct_75 rfl ?_
            refine V_iconst (v := 1) hC dX3_readsAct_76 rfl ?_
            refine V_cko (fun hm => V_callV_I (c := 3) (As := [.int 1]) (rest := [.int v1, .ref b_1]) (d' := 2) hC dX3_readsAct_77 1 (lw_V q1464 q1466 qs33 q87 q1467) (by decide +kernel) (List.mem_singleton.mp hm) (by decide) (by decide) rfl rfl rfl (Nat.le_of_ble_eq_true rfl) (Nat.le_trans (by decide) hd) (by decide) vMP_l (fun _ h => c_X3_number (Nat.le_refl _) h) (fun r_1 σ_6 => ?_))
            refine V_goto (tgt := 86) hC dX3_readsAct_80 (by decide) ?_
            exact hk_1 σ_6 r_1
        · refine V_iload_n hC dX3_readsAct_64 rfl ?_
          refine V_iconst (v := 1) hC dX3_readsAct_65 rfl ?_
          refine V_isub hC dX3_readsAct_66 ?_
          refine V_goto (tgt := 86) hC dX3_readsAct_67 (by decide) ?_
          exact hk_1 σ_3 (r - 1)
    · intro k hk
      refine V_icmp_ge (tgt := 43) hC dX3_readsAct_36 (by decide) ?_ ?_
      · refine V_iload_n hC dX3_readsAct_43 rfl ?_
        refine V_iconst (v := 3) hC dX3_readsAct_44 rfl ?_
        refine V_icmp_ne (tgt := 52) hC dX3_readsAct_45 (by decide) ?_ ?_
        · refine V_iconst (v := 2) hC dX3_readsAct_52 rfl ?_
          exact hk 2
        · refine V_iconst (v := 1) hC dX3_readsAct_48 rfl ?_
          refine V_goto (tgt := 53) hC dX3_readsAct_49 (by decide) ?_
          exact hk 1
      · refine V_iconst (v := 0) hC dX3_readsAct_39 rfl ?_
        refine V_goto (tgt := 53) hC dX3_readsAct_40 (by decide) ?_
        exact hk 0
  · refine V_iconst (v := 0) hC dX3_readsAct_17 rfl ?_
    exact V_zreturn rfl dX3_readsAct_18 rfl rfl
theorem c_X3_readsAct {l : Launch} {d : Nat} (hd : 6 ≤ d) {σ : vMem} {a0 : Nat} {r : Int32 × vMem} (h : f_X3_readsAct σ a0 = some r) : vOk l yX3_readsAct cX3_readsAct 3 (some .boolean) d [.ref a0] σ (.inl ((eI).1 r, (eI).2 r)) := V_method (em := eI) [some (.ref a0), none, none] (by decide +kernel) rfl (Nat.le_of_ble_eq_true rfl) (w_X3_readsAct hd σ a0) h
/-! NobodyBeenAftModel.does(I)Z -/
def f_X3_does_65 (a0 : Nat) (x1 : Int32) : Nat → vMem → Int32 → Option (Int32 × vMem)
  | 0, _, _ => none
  | n + 1, σ_1, v2 => cko σ_1 a0 [3] (dr (gr σ_1 a0 34) (fun b_2 => cka σ_1 b_2 105 x1 (if (gi σ_1 b_2 (Int32.toNatClampNeg x1)) ≤ v2 then (some (1, σ_1)) else cko σ_1 a0 [3] (dr (gr σ_1 a0 14) (fun b_3 => cko σ_1 a0 [3] (bv (f_X3_stepGoes σ_1 a0 b_3) (fun σ_2 => vl (v2 + 1) (fun v2_1 => f_X3_does_65 a0 x1 n σ_2 v2_1))))))))
def f_X3_does (σ : vMem) (a0 : Nat) (x1 : Int32) : Option (Int32 × vMem) := cko σ a0 [3] (dr (gr σ a0 33) (fun b => cka σ b 105 x1 (if ¬ (gi σ b (Int32.toNatClampNeg x1)) = 0 then (cko σ a0 [3] (dr (gr σ a0 33) (fun b_1 => cka σ b_1 105 x1 (if ¬ (gi σ b_1 (Int32.toNatClampNeg x1)) = 1 then (f_X3_does_65 a0 x1 FU σ 0) else cko σ a0 [3] (dr (gr σ a0 34) (fun b_4 => cka σ b_4 105 x1 (cko σ a0 [3] (bd (f_X3_passes σ a0 (gi σ b_4 (Int32.toNatClampNeg x1)) 1 1) (fun r σ_3 => if r < 0 then (some (0, σ_3)) else some (1, σ_3)))))))))) else cko σ a0 [3] (dr (gr σ a0 14) (fun b_5 => cko σ a0 [3] (dr (gr σ a0 34) (fun b_6 => cka σ b_6 105 x1 (cko σ a0 [3] (bd (f_X3_gives σ a0 b_5 (gi σ b_6 (Int32.toNatClampNeg x1))) (fun r_1 σ_4 => if r_1 < 0 then (some (0, σ_4)) else some (1, σ_4)))))))))))
abbrev P_X3_does (l : Launch) (d n0 s0 : Nat) : vX → Prop := vMP l yX3_does cX3_does 3 (some .boolean) d n0 s0
theorem w_X3_does_65 {l : Launch} {d n0 s0 : Nat} (hd : 5 ≤ d) (a0 : Nat) (x1 : Int32)  : ∀ (n : Nat) (σ_1 : vMem) (v2 : Int32), V (P_X3_does l d n0 s0) (vEmb eI) σ_1 65 [some (.ref a0), some (.int x1), some (.int v2)] [] (f_X3_does_65 a0 x1 n σ_1 v2) := by
  have hC : vPx (P_X3_does l d n0 s0) cX3_does 3 "NobodyBeenAftModel" (some .boolean) d := vMP_cx
  intro n
  induction n with
  | zero =>
    intro σ_1 v2
    exact V_none
  | succ n ih =>
    intro σ_1 v2
    refine V_eq (f_X3_does_65.eq_2 ..) ?_
    refine V_iload_n hC dX3_does_65 rfl ?_
    refine V_aload_n hC dX3_does_66 rfl ?_
    refine g_X3_64 hC dX3_does_67 (fun b_2 => ?_)
    refine V_iload_n hC dX3_does_70 rfl ?_
    refine V_iald hC dX3_does_71 ?_
    refine V_icmp_ge (tgt := 89) hC dX3_does_72 (by decide) ?_ ?_
    · refine V_iconst (v := 1) hC dX3_does_89 rfl ?_
      exact V_zreturn rfl dX3_does_90 rfl rfl
    · refine V_aload_n hC dX3_does_75 rfl ?_
      refine V_aload_n hC dX3_does_76 rfl ?_
      refine g_X3_34 hC dX3_does_77 (fun b_3 => ?_)
      refine V_cko (fun hm => V_callV_V (c := 3) (As := [.ref b_3]) (rest := []) (d' := 2) hC dX3_does_80 1 (lw_V q1683 q1685 qs57 q87 q1686) (by decide +kernel) (List.mem_singleton.mp hm) (by decide) (by decide) rfl rfl rfl (Nat.le_of_ble_eq_true rfl) (Nat.le_trans (by decide) hd) (by decide) vMP_l (fun _ h => c_X3_stepGoes (Nat.le_refl _) h) (fun σ_2 => ?_))
      refine V_iincL (v := v2 + 1) (ls' := fun v2_1 => [some (.ref a0), some (.int x1), some (.int v2_1)]) hC dX3_does_83 rfl (by decide) rfl rfl (fun _ => rfl) (fun v2_1 => ?_)
      refine V_goto (tgt := 65) hC dX3_does_86 (by decide) ?_
      exact ih σ_2 v2_1
theorem w_X3_does {l : Launch} {d n0 s0 : Nat} (hd : 5 ≤ d) (σ : vMem) (a0 : Nat) (x1 : Int32) : V (P_X3_does l d n0 s0) (vEmb eI) σ 0 [some (.ref a0), some (.int x1), none] [] (f_X3_does σ a0 x1) := by
  have hC : vPx (P_X3_does l d n0 s0) cX3_does 3 "NobodyBeenAftModel" (some .boolean) d := vMP_cx
  refine V_eq (f_X3_does.eq_1 ..) ?_
  refine V_aload_n hC dX3_does_0 rfl ?_
  refine g_X3_61 hC dX3_does_1 (fun b => ?_)
  refine V_iload_n hC dX3_does_4 rfl ?_
  refine V_iald hC dX3_does_5 ?_
  refine V_if_ne (tgt := 32) hC dX3_does_6 (by decide) ?_ ?_
  · refine V_aload_n hC dX3_does_32 rfl ?_
    refine g_X3_61 hC dX3_does_33 (fun b_1 => ?_)
    refine V_iload_n hC dX3_does_36 rfl ?_
    refine V_iald hC dX3_does_37 ?_
    refine V_iconst (v := 1) hC dX3_does_38 rfl ?_
    refine V_icmp_ne (tgt := 63) hC dX3_does_39 (by decide) ?_ ?_
    · refine V_iconst (v := 0) hC dX3_does_63 rfl ?_
      refine V_istore_n (ls' := [some (.ref a0), some (.int x1), some (.int 0)]) hC dX3_does_64 (by decide) rfl rfl ?_
      exact (w_X3_does_65 hd a0 x1) FU σ 0
    · refine V_aload_n hC dX3_does_42 rfl ?_
      refine V_aload_n hC dX3_does_43 rfl ?_
      refine g_X3_64 hC dX3_does_44 (fun b_4 => ?_)
      refine V_iload_n hC dX3_does_47 rfl ?_
      refine V_iald hC dX3_does_48 ?_
      refine V_iconst (v := 1) hC dX3_does_49 rfl ?_
      refine V_iconst (v := 1) hC dX3_does_50 rfl ?_
      refine V_cko (fun hm => V_callV_I (c := 3) (As := [.int (gi σ b_4 (Int32.toNatClampNeg x1)), .int 1, .int 1]) (rest := []) (d' := 2) hC dX3_does_51 3 (lw_V q1661 q1663 qs54 q87 q1664) (by decide +kernel) (List.mem_singleton.mp hm) (by decide) (by decide) rfl rfl rfl (Nat.le_of_ble_eq_true rfl) (Nat.le_trans (by decide) hd) (by decide) vMP_l (fun _ h => c_X3_passes (Nat.le_refl _) h) (fun r σ_3 => ?_))
      refine V_if_lt (tgt := 61) hC dX3_does_54 (by decide) ?_ ?_
      · refine V_iconst (v := 0) hC dX3_does_61 rfl ?_
        exact V_zreturn rfl dX3_does_62 rfl rfl
      · refine V_iconst (v := 1) hC dX3_does_57 rfl ?_
        refine V_goto (tgt := 62) hC dX3_does_58 (by decide) ?_
        exact V_zreturn rfl dX3_does_62 rfl rfl
  · refine V_aload_n hC dX3_does_9 rfl ?_
    refine V_aload_n hC dX3_does_10 rfl ?_
    refine g_X3_34 hC dX3_does_11 (fun b_5 => ?_)
    refine V_aload_n hC dX3_does_14 rfl ?_
    refine g_X3_64 hC dX3_does_15 (fun b_6 => ?_)
    refine V_iload_n hC dX3_does_18 rfl ?_
    refine V_iald hC dX3_does_19 ?_
    refine V_cko (fun hm => V_callV_I (c := 3) (As := [.ref b_5, .int (gi σ b_6 (Int32.toNatClampNeg x1))]) (rest := []) (d' := 4) hC dX3_does_20 2 (lw_V q1640 q1642 qs50 q87 q1643) (by decide +kernel) (List.mem_singleton.mp hm) (by decide) (by decide) rfl rfl rfl (Nat.le_of_ble_eq_true rfl) (Nat.le_trans (by decide) hd) (by decide) vMP_l (fun _ h => c_X3_gives (Nat.le_refl _) h) (fun r_1 σ_4 => ?_))
    refine V_if_lt (tgt := 30) hC dX3_does_23 (by decide) ?_ ?_
    · refine V_iconst (v := 0) hC dX3_does_30 rfl ?_
      exact V_zreturn rfl dX3_does_31 rfl rfl
    · refine V_iconst (v := 1) hC dX3_does_26 rfl ?_
      refine V_goto (tgt := 31) hC dX3_does_27 (by decide) ?_
      exact V_zreturn rfl dX3_does_31 rfl rfl
theorem c_X3_does {l : Launch} {d : Nat} (hd : 5 ≤ d) {σ : vMem} {a0 : Nat} {x1 : Int32} {r : Int32 × vMem} (h : f_X3_does σ a0 x1 = some r) : vOk l yX3_does cX3_does 3 (some .boolean) d [.ref a0, .int x1] σ (.inl ((eI).1 r, (eI).2 r)) := V_method (em := eI) [some (.ref a0), some (.int x1), none] (by decide +kernel) rfl (Nat.le_of_ble_eq_true rfl) (w_X3_does hd σ a0 x1) h
/-! NobodyBeenAftModel.voyage()I -/
def f_X3_voyage_68 (a0 : Nat) (k_1 : vMem → Int32 → Option (Int32 × vMem)) : Nat → vMem → Int32 → Option (Int32 × vMem)
  | 0, _, _ => none
  | n + 1, σ_12, v4_1 => cko σ_12 a0 [3] (if (gi σ_12 a0 35) ≤ v4_1 then (k_1 σ_12 v4_1) else cko σ_12 a0 [3] (bd (f_X3_does σ_12 a0 v4_1) (fun r_4 σ_13 => if r_4 = 0 then (k_1 σ_13 v4_1) else vl (v4_1 + 1) (fun v4_2 => f_X3_voyage_68 a0 k_1 n σ_13 v4_2))))
def f_X3_voyage_19 (a0 : Nat) (r : Int32) (k : vMem → Int32 → Option (Int32 × vMem)) : Nat → vMem → Int32 → Option (Int32 × vMem)
  | 0, _, _ => none
  | n_1 + 1, σ_14, v2_1 => if v2_1 = 0 then (k σ_14 v2_1) else cko σ_14 a0 [3] (cko σ_14 a0 [3] (if (gi σ_14 a0 19) ≤ (gi σ_14 a0 18) then (k σ_14 v2_1) else cko σ_14 a0 [3] (bd (f_X3_readsAct σ_14 a0) (fun r_5 σ_15 => f_X3_voyage_19 a0 r k n_1 σ_15 r_5))))
def f_X3_voyage (σ : vMem) (a0 : Nat) : Option (Int32 × vMem) := cko σ a0 [3] (vl (si σ a0 0 0) (fun σ_1 => cko σ_1 a0 [3] (bd (f_X3_begins σ_1 a0 60) (fun r σ_2 => cko σ_2 a0 [3] (vl (si σ_2 a0 35 0) (fun σ_3 => vl (fun (σ_4 : vMem) (v2 : Int32) => cko σ_4 a0 [3] (bp (f_X3_faultOf σ_4 a0 r 60 v2) (fun r_1 => if 0 ≤ r_1 then (cko σ_4 a0 [3] (bv (f_X3_putsBy σ_4 a0) (fun σ_5 => cko σ_5 a0 [3] (bv (f_X3_startsCounting σ_5 a0) (fun σ_6 => vl (fun (σ_7 : vMem) (v4 : Int32) => cko σ_7 a0 [3] (vl (si σ_7 a0 1 0) (fun σ_8 => cko σ_8 a0 [3] (vl (fun (y : Int32) => bp (f_X3_flag σ_8 y) (fun r_2 => cko σ_8 a0 [3] (bv (f_X3_enters σ_8 a0 (Int32.toInt64 r_2)) (fun σ_9 => cko σ_9 a0 [3] (cko σ_9 a0 [3] (bv (f_X3_enters σ_9 a0 (Int32.toInt64 (gi σ_9 a0 31))) (fun σ_10 => if v4 ≤ 0 then (some (0, σ_10)) else cko σ_10 a0 [3] (bd (f_X3_adds σ_10 a0 v4) (fun r_3 σ_11 => some (r_3, σ_11)))))))))) (fun k_2 => if (gi σ_8 a0 35) ≤ v4 then (k_2 0) else k_2 1))))) (fun k_1 => f_X3_voyage_68 a0 k_1 FU σ_6 0)))))) else some (r_1, σ_4)))) (fun k => f_X3_voyage_19 a0 r k FU σ_3 1)))))))
abbrev P_X3_voyage (l : Launch) (d n0 s0 : Nat) : vX → Prop := vMP l yX3_voyage cX3_voyage 5 (some .int) d n0 s0
theorem w_X3_voyage_68 {l : Launch} {d n0 s0 : Nat} (hd : 7 ≤ d) (a0 : Nat) (k_1 : vMem → Int32 → Option (Int32 × vMem)) (hk_1 : ∀ (σ_7 : vMem), ∀ (v4 : Int32), V (P_X3_voyage l d n0 s0) (vEmb eI) σ_7 92 [some (.ref a0), none, none, none, some (.int v4)] [] (k_1 σ_7 v4)) : ∀ (n : Nat) (σ_12 : vMem) (v4_1 : Int32), V (P_X3_voyage l d n0 s0) (vEmb eI) σ_12 68 [some (.ref a0), none, none, none, some (.int v4_1)] [] (f_X3_voyage_68 a0 k_1 n σ_12 v4_1) := by
  have hC : vPx (P_X3_voyage l d n0 s0) cX3_voyage 5 "NobodyBeenAftModel" (some .int) d := vMP_cx
  intro n
  induction n with
  | zero =>
    intro σ_12 v4_1
    exact V_none
  | succ n ih =>
    intro σ_12 v4_1
    refine V_eq (f_X3_voyage_68.eq_2 ..) ?_
    refine V_iload hC dX3_voyage_68 rfl ?_
    refine V_aload_n hC dX3_voyage_70 rfl ?_
    refine g_X3_316 hC dX3_voyage_71 ?_
    refine V_icmp_ge (tgt := 92) hC dX3_voyage_74 (by decide) ?_ ?_
    · exact hk_1 σ_12 v4_1
    · refine V_aload_n hC dX3_voyage_77 rfl ?_
      refine V_iload hC dX3_voyage_78 rfl ?_
      refine V_cko (fun hm => V_callV_I (c := 3) (As := [.int v4_1]) (rest := []) (d' := 5) hC dX3_voyage_80 1 (lw_V q1710 q1712 qs61 q87 q1713) (by decide +kernel) (List.mem_singleton.mp hm) (by decide) (by decide) rfl rfl rfl (Nat.le_of_ble_eq_true rfl) (Nat.le_trans (by decide) hd) (by decide) vMP_l (fun _ h => c_X3_does (Nat.le_refl _) h) (fun r_4 σ_13 => ?_))
      refine V_if_eq (tgt := 92) hC dX3_voyage_83 (by decide) ?_ ?_
      · exact hk_1 σ_13 v4_1
      · refine V_iincL (v := v4_1 + 1) (ls' := fun v4_2 => [some (.ref a0), none, none, none, some (.int v4_2)]) hC dX3_voyage_86 rfl (by decide) rfl rfl (fun _ => rfl) (fun v4_2 => ?_)
        refine V_goto (tgt := 68) hC dX3_voyage_89 (by decide) ?_
        exact ih σ_13 v4_2
theorem w_X3_voyage_19 {l : Launch} {d n0 s0 : Nat} (hd : 7 ≤ d) (a0 : Nat) (r : Int32) (k : vMem → Int32 → Option (Int32 × vMem)) (hk : ∀ (σ_4 : vMem), ∀ (v2 : Int32), V (P_X3_voyage l d n0 s0) (vEmb eI) σ_4 42 [some (.ref a0), some (.int r), some (.int v2), none, none] [] (k σ_4 v2)) : ∀ (n_1 : Nat) (σ_14 : vMem) (v2_1 : Int32), V (P_X3_voyage l d n0 s0) (vEmb eI) σ_14 19 [some (.ref a0), some (.int r), some (.int v2_1), none, none] [] (f_X3_voyage_19 a0 r k n_1 σ_14 v2_1) := by
  have hC : vPx (P_X3_voyage l d n0 s0) cX3_voyage 5 "NobodyBeenAftModel" (some .int) d := vMP_cx
  intro n_1
  induction n_1 with
  | zero =>
    intro σ_14 v2_1
    exact V_none
  | succ n_1 ih =>
    intro σ_14 v2_1
    refine V_eq (f_X3_voyage_19.eq_2 ..) ?_
    refine V_iload_n hC dX3_voyage_19 rfl ?_
    refine V_if_eq (tgt := 42) hC dX3_voyage_20 (by decide) ?_ ?_
    · exact hk σ_14 v2_1
    · refine V_aload_n hC dX3_voyage_23 rfl ?_
      refine g_X3_127 hC dX3_voyage_24 ?_
      refine V_aload_n hC dX3_voyage_27 rfl ?_
      refine g_X3_139 hC dX3_voyage_28 ?_
      refine V_icmp_ge (tgt := 42) hC dX3_voyage_31 (by decide) ?_ ?_
      · exact hk σ_14 v2_1
      · refine V_aload_n hC dX3_voyage_34 rfl ?_
        refine V_cko (fun hm => V_callV_I (c := 3) (As := []) (rest := []) (d' := 6) hC dX3_voyage_35 0 (lw_V q1705 q1707 qs60 q87 q1708) (by decide +kernel) (List.mem_singleton.mp hm) (by decide) (by decide) rfl rfl rfl (Nat.le_of_ble_eq_true rfl) (Nat.le_trans (by decide) hd) (by decide) vMP_l (fun _ h => c_X3_readsAct (Nat.le_refl _) h) (fun r_5 σ_15 => ?_))
        refine V_istore_n (ls' := [some (.ref a0), some (.int r), some (.int r_5), none, none]) hC dX3_voyage_38 (by decide) rfl rfl ?_
        refine V_goto (tgt := 19) hC dX3_voyage_39 (by decide) ?_
        exact ih σ_15 r_5
theorem w_X3_voyage {l : Launch} {d n0 s0 : Nat} (hd : 7 ≤ d) (σ : vMem) (a0 : Nat) : V (P_X3_voyage l d n0 s0) (vEmb eI) σ 0 [some (.ref a0), none, none, none, none] [] (f_X3_voyage σ a0) := by
  have hC : vPx (P_X3_voyage l d n0 s0) cX3_voyage 5 "NobodyBeenAftModel" (some .int) d := vMP_cx
  refine V_eq (f_X3_voyage.eq_1 ..) ?_
  refine V_aload_n hC dX3_voyage_0 rfl ?_
  refine V_iconst (v := 0) hC dX3_voyage_1 rfl ?_
  refine p_X3_103 hC dX3_voyage_2 (fun σ_1 => ?_)
  refine V_aload_n hC dX3_voyage_5 rfl ?_
  refine V_bipush (v := 60) hC dX3_voyage_6 rfl ?_
  refine V_cko (fun hm => V_callV_I (c := 3) (As := [.int 60]) (rest := []) (d' := 0) hC dX3_voyage_8 1 (lw_V q1455 q1457 qs31 q87 q1458) (by decide +kernel) (List.mem_singleton.mp hm) (by decide) (by decide) rfl rfl rfl (Nat.le_of_ble_eq_true rfl) (Nat.le_trans (by decide) hd) (by decide) vMP_l (fun _ h => c_X3_begins (Nat.le_refl _) h) (fun r σ_2 => ?_))
  refine V_istore_n (ls' := [some (.ref a0), some (.int r), none, none, none]) hC dX3_voyage_11 (by decide) rfl rfl ?_
  refine V_aload_n hC dX3_voyage_12 rfl ?_
  refine V_iconst (v := 0) hC dX3_voyage_13 rfl ?_
  refine p_X3_316 hC dX3_voyage_14 (fun σ_3 => ?_)
  refine V_iconst (v := 1) hC dX3_voyage_17 rfl ?_
  refine V_istore_n (ls' := [some (.ref a0), some (.int r), some (.int 1), none, none]) hC dX3_voyage_18 (by decide) rfl rfl ?_
  refine V_let (B := fun k => ∀ (σ_4 : vMem), ∀ (v2 : Int32), V (P_X3_voyage l d n0 s0) (vEmb eI) σ_4 42 [some (.ref a0), some (.int r), some (.int v2), none, none] [] (k σ_4 v2)) ?_ ?_
  · intro σ_4 v2
    refine V_aload_n hC dX3_voyage_42 rfl ?_
    refine V_iload_n hC dX3_voyage_43 rfl ?_
    refine V_bipush (v := 60) hC dX3_voyage_44 rfl ?_
    refine V_iload_n hC dX3_voyage_46 rfl ?_
    refine V_cko (fun hm => V_callV_PI (c := 3) (As := [.int r, .int 60, .int v2]) (rest := []) (d' := 0) hC dX3_voyage_47 3 (lw_V q1481 q1483 qs36 q87 q1484) (by decide +kernel) (List.mem_singleton.mp hm) (by decide) (by decide) rfl rfl rfl (Nat.le_of_ble_eq_true rfl) (Nat.le_trans (by decide) hd) (by decide) vMP_l (fun _ h => c_X3_faultOf (Nat.le_refl _) h) (fun r_1 => ?_))
    refine V_istore_n (ls' := [some (.ref a0), some (.int r), some (.int v2), some (.int r_1), none]) hC dX3_voyage_50 (by decide) rfl rfl ?_
    refine V_iload_n hC dX3_voyage_51 rfl ?_
    refine V_if_ge (tgt := 57) hC dX3_voyage_52 (by decide) ?_ ?_
    · refine V_aload_n hC dX3_voyage_57 rfl ?_
      refine V_cko (fun hm => V_callV_V (c := 3) (As := []) (rest := []) (d' := 0) hC dX3_voyage_58 0 (lw_V q1636 q1638 qs49 q87 q1639) (by decide +kernel) (List.mem_singleton.mp hm) (by decide) (by decide) rfl rfl rfl (Nat.le_of_ble_eq_true rfl) (Nat.le_trans (by decide) hd) (by decide) vMP_l (fun _ h => c_X3_putsBy (Nat.le_refl _) h) (fun σ_5 => ?_))
      refine V_aload_n hC dX3_voyage_61 rfl ?_
      refine V_cko (fun hm => V_callV_V (c := 3) (As := []) (rest := []) (d' := 0) hC dX3_voyage_62 0 (lw_V q1679 q1681 qs56 q87 q1682) (by decide +kernel) (List.mem_singleton.mp hm) (by decide) (by decide) rfl rfl rfl (Nat.le_of_ble_eq_true rfl) (Nat.le_trans (by decide) hd) (by decide) vMP_l (fun _ h => c_X3_startsCounting (Nat.le_refl _) h) (fun σ_6 => ?_))
      refine V_iconst (v := 0) hC dX3_voyage_65 rfl ?_
      refine V_istore (ls' := [some (.ref a0), some (.int r), some (.int v2), some (.int r_1), some (.int 0)]) hC dX3_voyage_66 (by decide) rfl rfl ?_
      refine V_let (B := fun k_1 => ∀ (σ_7 : vMem), ∀ (v4 : Int32), V (P_X3_voyage l d n0 s0) (vEmb eI) σ_7 92 [some (.ref a0), none, none, none, some (.int v4)] [] (k_1 σ_7 v4)) ?_ ?_
      · intro σ_7 v4
        refine V_aload_n hC dX3_voyage_92 rfl ?_
        refine V_iconst (v := 0) hC dX3_voyage_93 rfl ?_
        refine p_X3_110 hC dX3_voyage_94 (fun σ_8 => ?_)
        refine V_aload_n hC dX3_voyage_97 rfl ?_
        refine V_iload hC dX3_voyage_98 rfl ?_
        refine V_aload_n hC dX3_voyage_100 rfl ?_
        refine g_X3_316 hC dX3_voyage_101 ?_
        refine V_let (B := fun k_2 => ∀ (y : Int32), V (P_X3_voyage l d n0 s0) (vEmb eI) σ_8 112 [some (.ref a0), none, none, none, some (.int v4)] [.int y, .ref a0] (k_2 y)) ?_ ?_
        · intro y
          refine V_callS_PI (As := [.int y]) (rest := [.ref a0]) (d' := 0) hC dX3_voyage_112 1 (lw_S q1478 q1479 q87 q1480) (by decide +kernel) rfl rfl (Nat.le_of_ble_eq_true rfl) (Nat.le_trans (by decide) hd) (by decide) vMP_l (fun _ h => c_X3_flag (Nat.le_refl _) h) (fun r_2 => ?_)
          refine V_i2l hC dX3_voyage_115 ?_
          refine V_cko (fun hm => V_callV_V (c := 3) (As := [.long (Int32.toInt64 r_2)]) (rest := []) (d' := 0) hC dX3_voyage_116 1 (lw_V q1697 q1699 qs59 q87 q1700) (by decide +kernel) (List.mem_singleton.mp hm) (by decide) (by decide) rfl rfl rfl (Nat.le_of_ble_eq_true rfl) (Nat.le_trans (by decide) hd) (by decide) vMP_l (fun _ h => c_X3_enters (Nat.le_refl _) h) (fun σ_9 => ?_))
          refine V_aload_n hC dX3_voyage_119 rfl ?_
          refine V_aload_n hC dX3_voyage_120 rfl ?_
          refine g_X3_276 hC dX3_voyage_121 ?_
          refine V_i2l hC dX3_voyage_124 ?_
          refine V_cko (fun hm => V_callV_V (c := 3) (As := [.long (Int32.toInt64 (gi σ_9 a0 31))]) (rest := []) (d' := 0) hC dX3_voyage_125 1 (lw_V q1697 q1699 qs59 q87 q1700) (by decide +kernel) (List.mem_singleton.mp hm) (by decide) (by decide) rfl rfl rfl (Nat.le_of_ble_eq_true rfl) (Nat.le_trans (by decide) hd) (by decide) vMP_l (fun _ h => c_X3_enters (Nat.le_refl _) h) (fun σ_10 => ?_))
          refine V_iload hC dX3_voyage_128 rfl ?_
          refine V_if_le (tgt := 142) hC dX3_voyage_130 (by decide) ?_ ?_
          · refine V_iconst (v := 0) hC dX3_voyage_142 rfl ?_
            exact V_ireturn dX3_voyage_143 rfl rfl
          · refine V_aload_n hC dX3_voyage_133 rfl ?_
            refine V_iload hC dX3_voyage_134 rfl ?_
            refine V_cko (fun hm => V_callV_I (c := 3) (As := [.int v4]) (rest := []) (d' := 0) hC dX3_voyage_136 1 (lw_V q1653 q1655 qs53 q87 q1656) (by decide +kernel) (List.mem_singleton.mp hm) (by decide) (by decide) rfl rfl rfl (Nat.le_of_ble_eq_true rfl) (Nat.le_trans (by decide) hd) (by decide) vMP_l (fun _ h => c_X3_adds (Nat.le_refl _) h) (fun r_3 σ_11 => ?_))
            refine V_goto (tgt := 143) hC dX3_voyage_139 (by decide) ?_
            exact V_ireturn dX3_voyage_143 rfl rfl
        · intro k_2 hk_2
          refine V_icmp_ge (tgt := 111) hC dX3_voyage_104 (by decide) ?_ ?_
          · refine V_iconst (v := 0) hC dX3_voyage_111 rfl ?_
            exact hk_2 0
          · refine V_iconst (v := 1) hC dX3_voyage_107 rfl ?_
            refine V_goto (tgt := 112) hC dX3_voyage_108 (by decide) ?_
            exact hk_2 1
      · intro k_1 hk_1
        refine V_clr [1, 2, 3] (ls' := [some (.ref a0), none, none, none, some (.int 0)]) rfl ?_
        exact (w_X3_voyage_68 hd a0 k_1 hk_1) FU σ_6 0
    · refine V_iload_n hC dX3_voyage_55 rfl ?_
      exact V_ireturn dX3_voyage_56 rfl rfl
  · intro k hk
    exact (w_X3_voyage_19 hd a0 r k hk) FU σ_3 1
theorem c_X3_voyage {l : Launch} {d : Nat} (hd : 7 ≤ d) {σ : vMem} {a0 : Nat} {r : Int32 × vMem} (h : f_X3_voyage σ a0 = some r) : vOk l yX3_voyage cX3_voyage 5 (some .int) d [.ref a0] σ (.inl ((eI).1 r, (eI).2 r)) := V_method (em := eI) [some (.ref a0), none, none, none, none] (by decide +kernel) rfl (Nat.le_of_ble_eq_true rfl) (w_X3_voyage hd σ a0) h
/-! NobodyBeenAftModel.puts()V -/
def f_X3_puts_2 (a0 : Nat) : Nat → vMem → Int32 → Option (vMem)
  | 0, _, _ => none
  | n + 1, σ_1, v1 => if 57 ≤ v1 then (some σ_1) else cko σ_1 a0 [3] (dr (gr σ_1 a0 15) (fun b => cko σ_1 a0 [3] (dr (gr σ_1 a0 14) (fun b_1 => cka σ_1 b_1 105 v1 (cka σ_1 b 105 v1 (vl (si σ_1 b (Int32.toNatClampNeg v1) (gi σ_1 b_1 (Int32.toNatClampNeg v1))) (fun σ_2 => vl (v1 + 1) (fun v1_1 => f_X3_puts_2 a0 n σ_2 v1_1))))))))
def f_X3_puts (σ : vMem) (a0 : Nat) : Option (vMem) := f_X3_puts_2 a0 FU σ 0
abbrev P_X3_puts (l : Launch) (d n0 s0 : Nat) : vX → Prop := vMP l yX3_puts cX3_puts 2 none d n0 s0
theorem w_X3_puts_2 {l : Launch} {d n0 s0 : Nat} (hd : 0 ≤ d) (a0 : Nat)  : ∀ (n : Nat) (σ_1 : vMem) (v1 : Int32), V (P_X3_puts l d n0 s0) (vEmb eV) σ_1 2 [some (.ref a0), some (.int v1)] [] (f_X3_puts_2 a0 n σ_1 v1) := by
  have hC : vPx (P_X3_puts l d n0 s0) cX3_puts 2 "NobodyBeenAftModel" none d := vMP_cx
  intro n
  induction n with
  | zero =>
    intro σ_1 v1
    exact V_none
  | succ n ih =>
    intro σ_1 v1
    refine V_eq (f_X3_puts_2.eq_2 ..) ?_
    refine V_iload_n hC dX3_puts_2 rfl ?_
    refine V_bipush (v := 57) hC dX3_puts_3 rfl ?_
    refine V_icmp_ge (tgt := 26) hC dX3_puts_5 (by decide) ?_ ?_
    · exact V_return dX3_puts_26 rfl rfl
    · refine V_aload_n hC dX3_puts_8 rfl ?_
      refine g_X3_37 hC dX3_puts_9 (fun b => ?_)
      refine V_iload_n hC dX3_puts_12 rfl ?_
      refine V_aload_n hC dX3_puts_13 rfl ?_
      refine g_X3_34 hC dX3_puts_14 (fun b_1 => ?_)
      refine V_iload_n hC dX3_puts_17 rfl ?_
      refine V_iald hC dX3_puts_18 ?_
      refine V_iast hC dX3_puts_19 (fun σ_2 => ?_)
      refine V_iincL (v := v1 + 1) (ls' := fun v1_1 => [some (.ref a0), some (.int v1_1)]) hC dX3_puts_20 rfl (by decide) rfl rfl (fun _ => rfl) (fun v1_1 => ?_)
      refine V_goto (tgt := 2) hC dX3_puts_23 (by decide) ?_
      exact ih σ_2 v1_1
theorem w_X3_puts {l : Launch} {d n0 s0 : Nat} (hd : 0 ≤ d) (σ : vMem) (a0 : Nat) : V (P_X3_puts l d n0 s0) (vEmb eV) σ 0 [some (.ref a0), none] [] (f_X3_puts σ a0) := by
  have hC : vPx (P_X3_puts l d n0 s0) cX3_puts 2 "NobodyBeenAftModel" none d := vMP_cx
  refine V_eq (f_X3_puts.eq_1 ..) ?_
  refine V_iconst (v := 0) hC dX3_puts_0 rfl ?_
  refine V_istore_n (ls' := [some (.ref a0), some (.int 0)]) hC dX3_puts_1 (by decide) rfl rfl ?_
  exact (w_X3_puts_2 hd a0) FU σ 0
theorem c_X3_puts {l : Launch} {d : Nat} (hd : 0 ≤ d) {σ : vMem} {a0 : Nat} {r : vMem} (h : f_X3_puts σ a0 = some r) : vOk l yX3_puts cX3_puts 2 none d [.ref a0] σ (.inl ((eV).1 r, (eV).2 r)) := V_method (em := eV) [some (.ref a0), none] (by decide +kernel) rfl (Nat.le_of_ble_eq_true rfl) (w_X3_puts hd σ a0) h
/-! NobodyBeenAftModel.lane(I)I -/
def f_X3_lane_29 (a0 : Nat) (x1 : Int32) (k : vMem → Option (Int32 × vMem)) : Nat → vMem → Int32 → Option (Int32 × vMem)
  | 0, _, _ => none
  | n + 1, σ_7, v2 => if x1 ≤ v2 then (k σ_7) else cko σ_7 a0 [3] (dr (gr σ_7 a0 15) (fun b_1 => cko σ_7 a0 [3] (bv (f_X3_stepGoes σ_7 a0 b_1) (fun σ_8 => vl (v2 + 1) (fun v2_1 => f_X3_lane_29 a0 x1 k n σ_8 v2_1)))))
def f_X3_lane (σ : vMem) (a0 : Nat) (x1 : Int32) : Option (Int32 × vMem) := cko σ a0 [3] (vl (si σ a0 0 0) (fun σ_1 => bp (f_X3_in σ_1 (Int32.toInt64 x1) 0 60) (fun r => if ¬ r = 0 then (cko σ_1 a0 [3] (bv (f_X3_puts σ_1 a0) (fun σ_2 => cko σ_2 a0 [3] (bv (f_X3_startsCounting σ_2 a0) (fun σ_3 => vl (fun (σ_4 : vMem) => cko σ_4 a0 [3] (vl (si σ_4 a0 1 0) (fun σ_5 => cko σ_5 a0 [3] (cko σ_5 a0 [3] (bv (f_X3_enters σ_5 a0 (Int32.toInt64 (gi σ_5 a0 31))) (fun σ_6 => cko σ_6 a0 [3] (dr (gr σ_6 a0 15) (fun b => cka σ_6 b 105 1 (some ((gi σ_6 b (Int32.toNatClampNeg 1)), σ_6)))))))))) (fun k => f_X3_lane_29 a0 x1 k FU σ_3 0)))))) else some ((-1), σ_1))))
abbrev P_X3_lane (l : Launch) (d n0 s0 : Nat) : vX → Prop := vMP l yX3_lane cX3_lane 3 (some .int) d n0 s0
theorem w_X3_lane_29 {l : Launch} {d n0 s0 : Nat} (hd : 3 ≤ d) (a0 : Nat) (x1 : Int32) (k : vMem → Option (Int32 × vMem)) (hk : ∀ (σ_4 : vMem), V (P_X3_lane l d n0 s0) (vEmb eI) σ_4 48 [some (.ref a0), none, none] [] (k σ_4)) : ∀ (n : Nat) (σ_7 : vMem) (v2 : Int32), V (P_X3_lane l d n0 s0) (vEmb eI) σ_7 29 [some (.ref a0), some (.int x1), some (.int v2)] [] (f_X3_lane_29 a0 x1 k n σ_7 v2) := by
  have hC : vPx (P_X3_lane l d n0 s0) cX3_lane 3 "NobodyBeenAftModel" (some .int) d := vMP_cx
  intro n
  induction n with
  | zero =>
    intro σ_7 v2
    exact V_none
  | succ n ih =>
    intro σ_7 v2
    refine V_eq (f_X3_lane_29.eq_2 ..) ?_
    refine V_iload_n hC dX3_lane_29 rfl ?_
    refine V_iload_n hC dX3_lane_30 rfl ?_
    refine V_icmp_ge (tgt := 48) hC dX3_lane_31 (by decide) ?_ ?_
    · refine V_clr [1, 2] (ls' := [some (.ref a0), none, none]) rfl ?_
      exact hk σ_7
    · refine V_aload_n hC dX3_lane_34 rfl ?_
      refine V_aload_n hC dX3_lane_35 rfl ?_
      refine g_X3_37 hC dX3_lane_36 (fun b_1 => ?_)
      refine V_cko (fun hm => V_callV_V (c := 3) (As := [.ref b_1]) (rest := []) (d' := 2) hC dX3_lane_39 1 (lw_V q1683 q1685 qs57 q87 q1686) (by decide +kernel) (List.mem_singleton.mp hm) (by decide) (by decide) rfl rfl rfl (Nat.le_of_ble_eq_true rfl) (Nat.le_trans (by decide) hd) (by decide) vMP_l (fun _ h => c_X3_stepGoes (Nat.le_refl _) h) (fun σ_8 => ?_))
      refine V_iincL (v := v2 + 1) (ls' := fun v2_1 => [some (.ref a0), some (.int x1), some (.int v2_1)]) hC dX3_lane_42 rfl (by decide) rfl rfl (fun _ => rfl) (fun v2_1 => ?_)
      refine V_goto (tgt := 29) hC dX3_lane_45 (by decide) ?_
      exact ih σ_8 v2_1
theorem w_X3_lane {l : Launch} {d n0 s0 : Nat} (hd : 3 ≤ d) (σ : vMem) (a0 : Nat) (x1 : Int32) : V (P_X3_lane l d n0 s0) (vEmb eI) σ 0 [some (.ref a0), some (.int x1), none] [] (f_X3_lane σ a0 x1) := by
  have hC : vPx (P_X3_lane l d n0 s0) cX3_lane 3 "NobodyBeenAftModel" (some .int) d := vMP_cx
  refine V_eq (f_X3_lane.eq_1 ..) ?_
  refine V_aload_n hC dX3_lane_0 rfl ?_
  refine V_iconst (v := 0) hC dX3_lane_1 rfl ?_
  refine p_X3_103 hC dX3_lane_2 (fun σ_1 => ?_)
  refine V_iload_n hC dX3_lane_5 rfl ?_
  refine V_i2l hC dX3_lane_6 ?_
  refine V_lconst (v := 0) hC dX3_lane_7 rfl ?_
  refine V_ldc2 hC dX3_lane_8 q1678 ?_
  refine V_callS_PI (As := [.long (Int32.toInt64 x1), .long 0, .long 60]) (rest := []) (d' := 0) hC dX3_lane_11 3 (lw_S q1448 q1449 q87 q1450) (by decide +kernel) rfl rfl (Nat.le_of_ble_eq_true rfl) (Nat.le_trans (by decide) hd) (by decide) vMP_l (fun _ h => c_X3_in (Nat.le_refl _) h) (fun r => ?_)
  refine V_if_ne (tgt := 19) hC dX3_lane_14 (by decide) ?_ ?_
  · refine V_aload_n hC dX3_lane_19 rfl ?_
    refine V_cko (fun hm => V_callV_V (c := 3) (As := []) (rest := []) (d' := 0) hC dX3_lane_20 0 (lw_V q1718 q1720 qs62 q87 q1721) (by decide +kernel) (List.mem_singleton.mp hm) (by decide) (by decide) rfl rfl rfl (Nat.le_of_ble_eq_true rfl) (Nat.le_trans (by decide) hd) (by decide) vMP_l (fun _ h => c_X3_puts (Nat.le_refl _) h) (fun σ_2 => ?_))
    refine V_aload_n hC dX3_lane_23 rfl ?_
    refine V_cko (fun hm => V_callV_V (c := 3) (As := []) (rest := []) (d' := 0) hC dX3_lane_24 0 (lw_V q1679 q1681 qs56 q87 q1682) (by decide +kernel) (List.mem_singleton.mp hm) (by decide) (by decide) rfl rfl rfl (Nat.le_of_ble_eq_true rfl) (Nat.le_trans (by decide) hd) (by decide) vMP_l (fun _ h => c_X3_startsCounting (Nat.le_refl _) h) (fun σ_3 => ?_))
    refine V_iconst (v := 0) hC dX3_lane_27 rfl ?_
    refine V_istore_n (ls' := [some (.ref a0), some (.int x1), some (.int 0)]) hC dX3_lane_28 (by decide) rfl rfl ?_
    refine V_let (B := fun k => ∀ (σ_4 : vMem), V (P_X3_lane l d n0 s0) (vEmb eI) σ_4 48 [some (.ref a0), none, none] [] (k σ_4)) ?_ ?_
    · intro σ_4
      refine V_aload_n hC dX3_lane_48 rfl ?_
      refine V_iconst (v := 0) hC dX3_lane_49 rfl ?_
      refine p_X3_110 hC dX3_lane_50 (fun σ_5 => ?_)
      refine V_aload_n hC dX3_lane_53 rfl ?_
      refine V_aload_n hC dX3_lane_54 rfl ?_
      refine g_X3_276 hC dX3_lane_55 ?_
      refine V_i2l hC dX3_lane_58 ?_
      refine V_cko (fun hm => V_callV_V (c := 3) (As := [.long (Int32.toInt64 (gi σ_5 a0 31))]) (rest := []) (d' := 0) hC dX3_lane_59 1 (lw_V q1697 q1699 qs59 q87 q1700) (by decide +kernel) (List.mem_singleton.mp hm) (by decide) (by decide) rfl rfl rfl (Nat.le_of_ble_eq_true rfl) (Nat.le_trans (by decide) hd) (by decide) vMP_l (fun _ h => c_X3_enters (Nat.le_refl _) h) (fun σ_6 => ?_))
      refine V_aload_n hC dX3_lane_62 rfl ?_
      refine g_X3_37 hC dX3_lane_63 (fun b => ?_)
      refine V_iconst (v := 1) hC dX3_lane_66 rfl ?_
      refine V_iald hC dX3_lane_67 ?_
      exact V_ireturn dX3_lane_68 rfl rfl
    · intro k hk
      exact (w_X3_lane_29 hd a0 x1 k hk) FU σ_3 0
  · refine V_iconst (v := (-1)) hC dX3_lane_17 rfl ?_
    exact V_ireturn dX3_lane_18 rfl rfl
theorem c_X3_lane {l : Launch} {d : Nat} (hd : 3 ≤ d) {σ : vMem} {a0 : Nat} {x1 : Int32} {r : Int32 × vMem} (h : f_X3_lane σ a0 x1 = some r) : vOk l yX3_lane cX3_lane 3 (some .int) d [.ref a0, .int x1] σ (.inl ((eI).1 r, (eI).2 r)) := V_method (em := eI) [some (.ref a0), some (.int x1), none] (by decide +kernel) rfl (Nat.le_of_ble_eq_true rfl) (w_X3_lane hd σ a0 x1) h
/-! NobodyBeenAftModel.strikes()I -/
def f_X3_strikes_28 (a0 : Nat) (k : vMem → Int32 → Int32 → Option (Int32 × vMem)) (v1_1 : Int32) (σ_7 : vMem) (k_1 : Option (Int32 × vMem)) : Nat → Int32 → Option (Int32 × vMem)
  | 0, _ => none
  | n_1 + 1, v2_1 => cko σ_7 a0 [3] (if (gi σ_7 a0 6) ≤ v2_1 then k_1 else cko σ_7 a0 [3] (dr (gr σ_7 a0 11) (fun b_1 => cka σ_7 b_1 105 v2_1 (cko σ_7 a0 [3] (dr (gr σ_7 a0 15) (fun b_2 => cka σ_7 b_2 105 0 (vl (vl (v2_1 + 1) (fun v2_2 => f_X3_strikes_28 a0 k v1_1 σ_7 k_1 n_1 v2_2)) (fun k_2 => if ¬ (gi σ_7 b_1 (Int32.toNatClampNeg v2_1)) = (gi σ_7 b_2 (Int32.toNatClampNeg 0)) then k_2 else cko σ_7 a0 [3] (dr (gr σ_7 a0 12) (fun b_3 => cka σ_7 b_3 105 v2_1 (cko σ_7 a0 [3] (dr (gr σ_7 a0 15) (fun b_4 => cka σ_7 b_4 105 1 (if ¬ (gi σ_7 b_3 (Int32.toNatClampNeg v2_1)) = (gi σ_7 b_4 (Int32.toNatClampNeg 1)) then k_2 else k σ_7 v1_1 v2_1))))))))))))))
def f_X3_strikes_11 (a0 : Nat) (k : vMem → Int32 → Int32 → Option (Int32 × vMem)) : Nat → vMem → Int32 → Option (Int32 × vMem)
  | 0, _, _ => none
  | n + 1, σ_6, v1_1 => if 999 < v1_1 then (some ((-2), σ_6)) else cko σ_6 a0 [3] (dr (gr σ_6 a0 15) (fun b => cko σ_6 a0 [3] (bv (f_X3_stepGoes σ_6 a0 b) (fun σ_7 => vl (vl (v1_1 + 1) (fun v1_2 => f_X3_strikes_11 a0 k n σ_7 v1_2)) (fun k_1 => f_X3_strikes_28 a0 k v1_1 σ_7 k_1 FU 0)))))
def f_X3_strikes (σ : vMem) (a0 : Nat) : Option (Int32 × vMem) := cko σ a0 [3] (vl (si σ a0 0 0) (fun σ_1 => cko σ_1 a0 [3] (bv (f_X3_puts σ_1 a0) (fun σ_2 => vl (fun (σ_3 : vMem) (v1 : Int32) (v2 : Int32) => cko σ_3 a0 [3] (vl (si σ_3 a0 1 0) (fun σ_4 => cko σ_4 a0 [3] (bv (f_X3_enters σ_4 a0 (Int32.toInt64 v2)) (fun σ_5 => some (v1, σ_5)))))) (fun k => f_X3_strikes_11 a0 k FU σ_2 1)))))
abbrev P_X3_strikes (l : Launch) (d n0 s0 : Nat) : vX → Prop := vMP l yX3_strikes cX3_strikes 3 (some .int) d n0 s0
theorem w_X3_strikes_28 {l : Launch} {d n0 s0 : Nat} (hd : 3 ≤ d) (a0 : Nat) (k : vMem → Int32 → Int32 → Option (Int32 × vMem)) (v1_1 : Int32) (σ_7 : vMem) (k_1 : Option (Int32 × vMem)) (hk : ∀ (σ_3 : vMem), ∀ (v1 : Int32), ∀ (v2 : Int32), V (P_X3_strikes l d n0 s0) (vEmb eI) σ_3 66 [some (.ref a0), some (.int v1), some (.int v2)] [] (k σ_3 v1 v2)) (hk_1 : V (P_X3_strikes l d n0 s0) (vEmb eI) σ_7 85 [some (.ref a0), some (.int v1_1), none] [] (k_1)) : ∀ (n_1 : Nat) (v2_1 : Int32), V (P_X3_strikes l d n0 s0) (vEmb eI) σ_7 28 [some (.ref a0), some (.int v1_1), some (.int v2_1)] [] (f_X3_strikes_28 a0 k v1_1 σ_7 k_1 n_1 v2_1) := by
  have hC : vPx (P_X3_strikes l d n0 s0) cX3_strikes 3 "NobodyBeenAftModel" (some .int) d := vMP_cx
  intro n_1
  induction n_1 with
  | zero =>
    intro v2_1
    exact V_none
  | succ n_1 ih =>
    intro v2_1
    refine V_eq (f_X3_strikes_28.eq_2 ..) ?_
    refine V_iload_n hC dX3_strikes_28 rfl ?_
    refine V_aload_n hC dX3_strikes_29 rfl ?_
    refine g_X3_196 hC dX3_strikes_30 ?_
    refine V_icmp_ge (tgt := 85) hC dX3_strikes_33 (by decide) ?_ ?_
    · refine V_clr [2] (ls' := [some (.ref a0), some (.int v1_1), none]) rfl ?_
      exact hk_1
    · refine V_aload_n hC dX3_strikes_36 rfl ?_
      refine g_X3_25 hC dX3_strikes_37 (fun b_1 => ?_)
      refine V_iload_n hC dX3_strikes_40 rfl ?_
      refine V_iald hC dX3_strikes_41 ?_
      refine V_aload_n hC dX3_strikes_42 rfl ?_
      refine g_X3_37 hC dX3_strikes_43 (fun b_2 => ?_)
      refine V_iconst (v := 0) hC dX3_strikes_46 rfl ?_
      refine V_iald hC dX3_strikes_47 ?_
      refine V_let (B := fun k_2 => V (P_X3_strikes l d n0 s0) (vEmb eI) σ_7 79 [some (.ref a0), some (.int v1_1), some (.int v2_1)] [] (k_2)) ?_ ?_
      · skip
        refine V_iincL (v := v2_1 + 1) (ls' := fun v2_2 => [some (.ref a0), some (.int v1_1), some (.int v2_2)]) hC dX3_strikes_79 rfl (by decide) rfl rfl (fun _ => rfl) (fun v2_2 => ?_)
        refine V_goto (tgt := 28) hC dX3_strikes_82 (by decide) ?_
        exact ih v2_2
      · intro k_2 hk_2
        refine V_icmp_ne (tgt := 79) hC dX3_strikes_48 (by decide) ?_ ?_
        · exact hk_2
        · refine V_aload_n hC dX3_strikes_51 rfl ?_
          refine g_X3_28 hC dX3_strikes_52 (fun b_3 => ?_)
          refine V_iload_n hC dX3_strikes_55 rfl ?_
          refine V_iald hC dX3_strikes_56 ?_
          refine V_aload_n hC dX3_strikes_57 rfl ?_
          refine g_X3_37 hC dX3_strikes_58 (fun b_4 => ?_)
          refine V_iconst (v := 1) hC dX3_strikes_61 rfl ?_
          refine V_iald hC dX3_strikes_62 ?_
          refine V_icmp_ne (tgt := 79) hC dX3_strikes_63 (by decide) ?_ ?_
          · exact hk_2
          · exact hk σ_7 v1_1 v2_1
theorem w_X3_strikes_11 {l : Launch} {d n0 s0 : Nat} (hd : 3 ≤ d) (a0 : Nat) (k : vMem → Int32 → Int32 → Option (Int32 × vMem)) (hk : ∀ (σ_3 : vMem), ∀ (v1 : Int32), ∀ (v2 : Int32), V (P_X3_strikes l d n0 s0) (vEmb eI) σ_3 66 [some (.ref a0), some (.int v1), some (.int v2)] [] (k σ_3 v1 v2)) : ∀ (n : Nat) (σ_6 : vMem) (v1_1 : Int32), V (P_X3_strikes l d n0 s0) (vEmb eI) σ_6 11 [some (.ref a0), some (.int v1_1), none] [] (f_X3_strikes_11 a0 k n σ_6 v1_1) := by
  have hC : vPx (P_X3_strikes l d n0 s0) cX3_strikes 3 "NobodyBeenAftModel" (some .int) d := vMP_cx
  intro n
  induction n with
  | zero =>
    intro σ_6 v1_1
    exact V_none
  | succ n ih =>
    intro σ_6 v1_1
    refine V_eq (f_X3_strikes_11.eq_2 ..) ?_
    refine V_iload_n hC dX3_strikes_11 rfl ?_
    refine V_sipush (v := 999) hC dX3_strikes_12 rfl ?_
    refine V_icmp_gt (tgt := 91) hC dX3_strikes_15 (by decide) ?_ ?_
    · refine V_bipush (v := (-2)) hC dX3_strikes_91 rfl ?_
      exact V_ireturn dX3_strikes_93 rfl rfl
    · refine V_aload_n hC dX3_strikes_18 rfl ?_
      refine V_aload_n hC dX3_strikes_19 rfl ?_
      refine g_X3_37 hC dX3_strikes_20 (fun b => ?_)
      refine V_cko (fun hm => V_callV_V (c := 3) (As := [.ref b]) (rest := []) (d' := 2) hC dX3_strikes_23 1 (lw_V q1683 q1685 qs57 q87 q1686) (by decide +kernel) (List.mem_singleton.mp hm) (by decide) (by decide) rfl rfl rfl (Nat.le_of_ble_eq_true rfl) (Nat.le_trans (by decide) hd) (by decide) vMP_l (fun _ h => c_X3_stepGoes (Nat.le_refl _) h) (fun σ_7 => ?_))
      refine V_iconst (v := 0) hC dX3_strikes_26 rfl ?_
      refine V_istore_n (ls' := [some (.ref a0), some (.int v1_1), some (.int 0)]) hC dX3_strikes_27 (by decide) rfl rfl ?_
      refine V_let (B := fun k_1 => V (P_X3_strikes l d n0 s0) (vEmb eI) σ_7 85 [some (.ref a0), some (.int v1_1), none] [] (k_1)) ?_ ?_
      · skip
        refine V_iincL (v := v1_1 + 1) (ls' := fun v1_2 => [some (.ref a0), some (.int v1_2), none]) hC dX3_strikes_85 rfl (by decide) rfl rfl (fun _ => rfl) (fun v1_2 => ?_)
        refine V_goto (tgt := 11) hC dX3_strikes_88 (by decide) ?_
        exact ih σ_7 v1_2
      · intro k_1 hk_1
        exact (w_X3_strikes_28 hd a0 k v1_1 σ_7 k_1 hk hk_1) FU 0
theorem w_X3_strikes {l : Launch} {d n0 s0 : Nat} (hd : 3 ≤ d) (σ : vMem) (a0 : Nat) : V (P_X3_strikes l d n0 s0) (vEmb eI) σ 0 [some (.ref a0), none, none] [] (f_X3_strikes σ a0) := by
  have hC : vPx (P_X3_strikes l d n0 s0) cX3_strikes 3 "NobodyBeenAftModel" (some .int) d := vMP_cx
  refine V_eq (f_X3_strikes.eq_1 ..) ?_
  refine V_aload_n hC dX3_strikes_0 rfl ?_
  refine V_iconst (v := 0) hC dX3_strikes_1 rfl ?_
  refine p_X3_103 hC dX3_strikes_2 (fun σ_1 => ?_)
  refine V_aload_n hC dX3_strikes_5 rfl ?_
  refine V_cko (fun hm => V_callV_V (c := 3) (As := []) (rest := []) (d' := 0) hC dX3_strikes_6 0 (lw_V q1718 q1720 qs62 q87 q1721) (by decide +kernel) (List.mem_singleton.mp hm) (by decide) (by decide) rfl rfl rfl (Nat.le_of_ble_eq_true rfl) (Nat.le_trans (by decide) hd) (by decide) vMP_l (fun _ h => c_X3_puts (Nat.le_refl _) h) (fun σ_2 => ?_))
  refine V_iconst (v := 1) hC dX3_strikes_9 rfl ?_
  refine V_istore_n (ls' := [some (.ref a0), some (.int 1), none]) hC dX3_strikes_10 (by decide) rfl rfl ?_
  refine V_let (B := fun k => ∀ (σ_3 : vMem), ∀ (v1 : Int32), ∀ (v2 : Int32), V (P_X3_strikes l d n0 s0) (vEmb eI) σ_3 66 [some (.ref a0), some (.int v1), some (.int v2)] [] (k σ_3 v1 v2)) ?_ ?_
  · intro σ_3 v1 v2
    refine V_aload_n hC dX3_strikes_66 rfl ?_
    refine V_iconst (v := 0) hC dX3_strikes_67 rfl ?_
    refine p_X3_110 hC dX3_strikes_68 (fun σ_4 => ?_)
    refine V_aload_n hC dX3_strikes_71 rfl ?_
    refine V_iload_n hC dX3_strikes_72 rfl ?_
    refine V_i2l hC dX3_strikes_73 ?_
    refine V_cko (fun hm => V_callV_V (c := 3) (As := [.long (Int32.toInt64 v2)]) (rest := []) (d' := 0) hC dX3_strikes_74 1 (lw_V q1697 q1699 qs59 q87 q1700) (by decide +kernel) (List.mem_singleton.mp hm) (by decide) (by decide) rfl rfl rfl (Nat.le_of_ble_eq_true rfl) (Nat.le_trans (by decide) hd) (by decide) vMP_l (fun _ h => c_X3_enters (Nat.le_refl _) h) (fun σ_5 => ?_))
    refine V_iload_n hC dX3_strikes_77 rfl ?_
    exact V_ireturn dX3_strikes_78 rfl rfl
  · intro k hk
    exact (w_X3_strikes_11 hd a0 k hk) FU σ_2 1
theorem c_X3_strikes {l : Launch} {d : Nat} (hd : 3 ≤ d) {σ : vMem} {a0 : Nat} {r : Int32 × vMem} (h : f_X3_strikes σ a0 = some r) : vOk l yX3_strikes cX3_strikes 3 (some .int) d [.ref a0] σ (.inl ((eI).1 r, (eI).2 r)) := V_method (em := eI) [some (.ref a0), none, none] (by decide +kernel) rfl (Nat.le_of_ble_eq_true rfl) (w_X3_strikes hd σ a0) h
/-! NobodyBeenAftModel.has(II)Z -/
def f_X3_has (σ : vMem) (x0 : Int32) (x1 : Int32) : Option (Int32) := if ¬ ((x0 >>> (x1 &&& 31)) &&& 1) = 1 then (some 0) else some 1
abbrev P_X3_has (l : Launch) (d n0 s0 : Nat) : vX → Prop := vMP l yX3_has cX3_has 2 (some .boolean) d n0 s0
theorem w_X3_has {l : Launch} {d n0 s0 : Nat} (hd : 0 ≤ d) (σ : vMem) (x0 : Int32) (x1 : Int32) : V (P_X3_has l d n0 s0) (vEmb (ePI σ)) σ 0 [some (.int x0), some (.int x1)] [] (f_X3_has σ x0 x1) := by
  have hC : vPx (P_X3_has l d n0 s0) cX3_has 2 "NobodyBeenAftModel" (some .boolean) d := vMP_cx
  refine V_eq (f_X3_has.eq_1 ..) ?_
  refine V_iload_n hC dX3_has_0 rfl ?_
  refine V_iload_n hC dX3_has_1 rfl ?_
  refine V_ishr hC dX3_has_2 ?_
  refine V_iconst (v := 1) hC dX3_has_3 rfl ?_
  refine V_iand hC dX3_has_4 ?_
  refine V_iconst (v := 1) hC dX3_has_5 rfl ?_
  refine V_icmp_ne (tgt := 13) hC dX3_has_6 (by decide) ?_ ?_
  · refine V_iconst (v := 0) hC dX3_has_13 rfl ?_
    exact V_zreturn rfl dX3_has_14 rfl rfl
  · refine V_iconst (v := 1) hC dX3_has_9 rfl ?_
    refine V_goto (tgt := 14) hC dX3_has_10 (by decide) ?_
    exact V_zreturn rfl dX3_has_14 rfl rfl
theorem c_X3_has {l : Launch} {d : Nat} (hd : 0 ≤ d) {σ : vMem} {x0 : Int32} {x1 : Int32} {r : Int32} (h : f_X3_has σ x0 x1 = some r) : vOk l yX3_has cX3_has 2 (some .boolean) d [.int x0, .int x1] σ (.inl (((ePI σ)).1 r, ((ePI σ)).2 r)) := V_method (em := (ePI σ)) [some (.int x0), some (.int x1)] (by decide +kernel) rfl (Nat.le_of_ble_eq_true rfl) (w_X3_has hd σ x0 x1) h
/-! NobodyBeenAftModel.moved(II)I -/
def f_X3_moved_4 (σ : vMem) (x0 : Int32) (x1 : Int32) : Nat → Int32 → Int32 → Option (Int32)
  | 0, _, _ => none
  | n + 1, v2, v3 => if 9 ≤ v3 then (some v2) else bp (f_X3_has σ x0 v3) (fun r => vl (fun (y : Int32) => vl (v2 ||| y) (fun v2_1 => vl (v3 + 1) (fun v3_1 => f_X3_moved_4 σ x0 x1 n v2_1 v3_1))) (fun k => if r = 0 then (k 0) else bp (f_X3_put σ (v3 + x1)) (fun r_1 => k (1 <<< (r_1 &&& 31)))))
def f_X3_moved (σ : vMem) (x0 : Int32) (x1 : Int32) : Option (Int32) := f_X3_moved_4 σ x0 x1 FU 0 0
abbrev P_X3_moved (l : Launch) (d n0 s0 : Nat) : vX → Prop := vMP l yX3_moved cX3_moved 4 (some .int) d n0 s0
theorem w_X3_moved_4 {l : Launch} {d n0 s0 : Nat} (hd : 1 ≤ d) (σ : vMem) (x0 : Int32) (x1 : Int32)  : ∀ (n : Nat) (v2 : Int32) (v3 : Int32), V (P_X3_moved l d n0 s0) (vEmb (ePI σ)) σ 4 [some (.int x0), some (.int x1), some (.int v2), some (.int v3)] [] (f_X3_moved_4 σ x0 x1 n v2 v3) := by
  have hC : vPx (P_X3_moved l d n0 s0) cX3_moved 4 "NobodyBeenAftModel" (some .int) d := vMP_cx
  intro n
  induction n with
  | zero =>
    intro v2 v3
    exact V_none
  | succ n ih =>
    intro v2 v3
    refine V_eq (f_X3_moved_4.eq_2 ..) ?_
    refine V_iload_n hC dX3_moved_4 rfl ?_
    refine V_bipush (v := 9) hC dX3_moved_5 rfl ?_
    refine V_icmp_ge (tgt := 39) hC dX3_moved_7 (by decide) ?_ ?_
    · refine V_iload_n hC dX3_moved_39 rfl ?_
      exact V_ireturn dX3_moved_40 rfl rfl
    · refine V_iload_n hC dX3_moved_10 rfl ?_
      refine V_iload_n hC dX3_moved_11 rfl ?_
      refine V_iload_n hC dX3_moved_12 rfl ?_
      refine V_callS_PI (As := [.int x0, .int v3]) (rest := [.int v2]) (d' := 0) hC dX3_moved_13 2 (lw_S q1737 q1738 q87 q1739) (by decide +kernel) rfl rfl (Nat.le_of_ble_eq_true rfl) (Nat.le_trans (by decide) hd) (by decide) vMP_l (fun _ h => c_X3_has (Nat.le_refl _) h) (fun r => ?_)
      refine V_let (B := fun k => ∀ (y : Int32), V (P_X3_moved l d n0 s0) (vEmb (ePI σ)) σ 31 [some (.int x0), some (.int x1), none, some (.int v3)] [.int y, .int v2] (k y)) ?_ ?_
      · intro y
        refine V_ior hC dX3_moved_31 ?_
        refine V_istore_nL (ls' := fun v2_1 => [some (.int x0), some (.int x1), some (.int v2_1), some (.int v3)]) hC dX3_moved_32 (by decide) rfl (fun _ => rfl) (fun v2_1 => ?_)
        refine V_iincL (v := v3 + 1) (ls' := fun v3_1 => [some (.int x0), some (.int x1), some (.int v2_1), some (.int v3_1)]) hC dX3_moved_33 rfl (by decide) rfl rfl (fun _ => rfl) (fun v3_1 => ?_)
        refine V_goto (tgt := 4) hC dX3_moved_36 (by decide) ?_
        exact ih v2_1 v3_1
      · intro k hk
        refine V_if_eq (tgt := 30) hC dX3_moved_16 (by decide) ?_ ?_
        · refine V_iconst (v := 0) hC dX3_moved_30 rfl ?_
          refine V_clr [2] (ls' := [some (.int x0), some (.int x1), none, some (.int v3)]) rfl ?_
          exact hk 0
        · refine V_iconst (v := 1) hC dX3_moved_19 rfl ?_
          refine V_iload_n hC dX3_moved_20 rfl ?_
          refine V_iload_n hC dX3_moved_21 rfl ?_
          refine V_iadd hC dX3_moved_22 ?_
          refine V_callS_PI (As := [.int (v3 + x1)]) (rest := [.int 1, .int v2]) (d' := 0) hC dX3_moved_23 1 (lw_S q1690 q1691 q87 q1692) (by decide +kernel) rfl rfl (Nat.le_of_ble_eq_true rfl) (Nat.le_trans (by decide) hd) (by decide) vMP_l (fun _ h => c_X3_put (Nat.le_refl _) h) (fun r_1 => ?_)
          refine V_ishl hC dX3_moved_26 ?_
          refine V_goto (tgt := 31) hC dX3_moved_27 (by decide) ?_
          refine V_clr [2] (ls' := [some (.int x0), some (.int x1), none, some (.int v3)]) rfl ?_
          exact hk (1 <<< (r_1 &&& 31))
theorem w_X3_moved {l : Launch} {d n0 s0 : Nat} (hd : 1 ≤ d) (σ : vMem) (x0 : Int32) (x1 : Int32) : V (P_X3_moved l d n0 s0) (vEmb (ePI σ)) σ 0 [some (.int x0), some (.int x1), none, none] [] (f_X3_moved σ x0 x1) := by
  have hC : vPx (P_X3_moved l d n0 s0) cX3_moved 4 "NobodyBeenAftModel" (some .int) d := vMP_cx
  refine V_eq (f_X3_moved.eq_1 ..) ?_
  refine V_iconst (v := 0) hC dX3_moved_0 rfl ?_
  refine V_istore_n (ls' := [some (.int x0), some (.int x1), some (.int 0), none]) hC dX3_moved_1 (by decide) rfl rfl ?_
  refine V_iconst (v := 0) hC dX3_moved_2 rfl ?_
  refine V_istore_n (ls' := [some (.int x0), some (.int x1), some (.int 0), some (.int 0)]) hC dX3_moved_3 (by decide) rfl rfl ?_
  exact (w_X3_moved_4 hd σ x0 x1) FU 0 0
theorem c_X3_moved {l : Launch} {d : Nat} (hd : 1 ≤ d) {σ : vMem} {x0 : Int32} {x1 : Int32} {r : Int32} (h : f_X3_moved σ x0 x1 = some r) : vOk l yX3_moved cX3_moved 4 (some .int) d [.int x0, .int x1] σ (.inl (((ePI σ)).1 r, ((ePI σ)).2 r)) := V_method (em := (ePI σ)) [some (.int x0), some (.int x1), none, none] (by decide +kernel) rfl (Nat.le_of_ble_eq_true rfl) (w_X3_moved hd σ x0 x1) h
/-! NobodyBeenAftModel.movedByDue(II)I -/
def f_X3_movedByDue_5 (σ : vMem) (a0 : Nat) (x2 : Int32) : Nat → Int32 → Int32 → Option (Int32)
  | 0, _, _ => none
  | n + 1, v3, v4 => cko σ a0 [3] (dr (gr σ a0 14) (fun b => cka σ b 105 3 (if (gi σ b (Int32.toNatClampNeg 3)) ≤ v4 then (some v3) else vl (5 + (3 * v4)) (fun v5 => cko σ a0 [3] (dr (gr σ a0 14) (fun b_1 => cka σ b_1 105 (v5 + 0) (cko σ a0 [3] (dr (gr σ a0 14) (fun b_2 => cka σ b_2 105 0 (vl (fun (y : Int32) => vl (v4 + 1) (fun v4_1 => f_X3_movedByDue_5 σ a0 x2 n y v4_1)) (fun k => if ¬ (gi σ b_1 (Int32.toNatClampNeg (v5 + 0))) = ((gi σ b_2 (Int32.toNatClampNeg 0)) + x2) then (k v3) else cko σ a0 [3] (dr (gr σ a0 14) (fun b_3 => cka σ b_3 105 (v5 + 1) (bp (f_X3_moved σ v3 (gi σ b_3 (Int32.toNatClampNeg (v5 + 1)))) (fun r => k r)))))))))))))))
def f_X3_movedByDue (σ : vMem) (a0 : Nat) (x1 : Int32) (x2 : Int32) : Option (Int32) := f_X3_movedByDue_5 σ a0 x2 FU x1 0
abbrev P_X3_movedByDue (l : Launch) (d n0 s0 : Nat) : vX → Prop := vMP l yX3_movedByDue cX3_movedByDue 6 (some .int) d n0 s0
theorem w_X3_movedByDue_5 {l : Launch} {d n0 s0 : Nat} (hd : 2 ≤ d) (σ : vMem) (a0 : Nat) (x2 : Int32)  : ∀ (n : Nat) (v3 : Int32) (v4 : Int32), V (P_X3_movedByDue l d n0 s0) (vEmb (ePI σ)) σ 5 [some (.ref a0), none, some (.int x2), some (.int v3), some (.int v4), none] [] (f_X3_movedByDue_5 σ a0 x2 n v3 v4) := by
  have hC : vPx (P_X3_movedByDue l d n0 s0) cX3_movedByDue 6 "NobodyBeenAftModel" (some .int) d := vMP_cx
  intro n
  induction n with
  | zero =>
    intro v3 v4
    exact V_none
  | succ n ih =>
    intro v3 v4
    refine V_eq (f_X3_movedByDue_5.eq_2 ..) ?_
    refine V_iload hC dX3_movedByDue_5 rfl ?_
    refine V_aload_n hC dX3_movedByDue_7 rfl ?_
    refine g_X3_34 hC dX3_movedByDue_8 (fun b => ?_)
    refine V_iconst (v := 3) hC dX3_movedByDue_11 rfl ?_
    refine V_iald hC dX3_movedByDue_12 ?_
    refine V_icmp_ge (tgt := 68) hC dX3_movedByDue_13 (by decide) ?_ ?_
    · refine V_iload_n hC dX3_movedByDue_68 rfl ?_
      exact V_ireturn dX3_movedByDue_69 rfl rfl
    · refine V_iconst (v := 5) hC dX3_movedByDue_16 rfl ?_
      refine V_iconst (v := 3) hC dX3_movedByDue_17 rfl ?_
      refine V_iload hC dX3_movedByDue_18 rfl ?_
      refine V_imul hC dX3_movedByDue_20 ?_
      refine V_iadd hC dX3_movedByDue_21 ?_
      refine V_istoreL (ls' := fun v5 => [some (.ref a0), none, some (.int x2), some (.int v3), some (.int v4), some (.int v5)]) hC dX3_movedByDue_22 (by decide) rfl (fun _ => rfl) (fun v5 => ?_)
      refine V_aload_n hC dX3_movedByDue_24 rfl ?_
      refine g_X3_34 hC dX3_movedByDue_25 (fun b_1 => ?_)
      refine V_iload hC dX3_movedByDue_28 rfl ?_
      refine V_iconst (v := 0) hC dX3_movedByDue_30 rfl ?_
      refine V_iadd hC dX3_movedByDue_31 ?_
      refine V_iald hC dX3_movedByDue_32 ?_
      refine V_aload_n hC dX3_movedByDue_33 rfl ?_
      refine g_X3_34 hC dX3_movedByDue_34 (fun b_2 => ?_)
      refine V_iconst (v := 0) hC dX3_movedByDue_37 rfl ?_
      refine V_iald hC dX3_movedByDue_38 ?_
      refine V_iload_n hC dX3_movedByDue_39 rfl ?_
      refine V_iadd hC dX3_movedByDue_40 ?_
      refine V_let (B := fun k => ∀ (y : Int32), V (P_X3_movedByDue l d n0 s0) (vEmb (ePI σ)) σ 61 [some (.ref a0), none, some (.int x2), none, some (.int v4), none] [.int y] (k y)) ?_ ?_
      · intro y
        refine V_istore_n (ls' := [some (.ref a0), none, some (.int x2), some (.int y), some (.int v4), none]) hC dX3_movedByDue_61 (by decide) rfl rfl ?_
        refine V_iincL (v := v4 + 1) (ls' := fun v4_1 => [some (.ref a0), none, some (.int x2), some (.int y), some (.int v4_1), none]) hC dX3_movedByDue_62 rfl (by decide) rfl rfl (fun _ => rfl) (fun v4_1 => ?_)
        refine V_goto (tgt := 5) hC dX3_movedByDue_65 (by decide) ?_
        exact ih y v4_1
      · intro k hk
        refine V_icmp_ne (tgt := 60) hC dX3_movedByDue_41 (by decide) ?_ ?_
        · refine V_iload_n hC dX3_movedByDue_60 rfl ?_
          refine V_clr [3, 5] (ls' := [some (.ref a0), none, some (.int x2), none, some (.int v4), none]) rfl ?_
          exact hk v3
        · refine V_iload_n hC dX3_movedByDue_44 rfl ?_
          refine V_aload_n hC dX3_movedByDue_45 rfl ?_
          refine g_X3_34 hC dX3_movedByDue_46 (fun b_3 => ?_)
          refine V_iload hC dX3_movedByDue_49 rfl ?_
          refine V_iconst (v := 1) hC dX3_movedByDue_51 rfl ?_
          refine V_iadd hC dX3_movedByDue_52 ?_
          refine V_iald hC dX3_movedByDue_53 ?_
          refine V_callS_PI (As := [.int v3, .int (gi σ b_3 (Int32.toNatClampNeg (v5 + 1)))]) (rest := []) (d' := 1) hC dX3_movedByDue_54 2 (lw_S q1734 q1735 q87 q1736) (by decide +kernel) rfl rfl (Nat.le_of_ble_eq_true rfl) (Nat.le_trans (by decide) hd) (by decide) vMP_l (fun _ h => c_X3_moved (Nat.le_refl _) h) (fun r => ?_)
          refine V_goto (tgt := 61) hC dX3_movedByDue_57 (by decide) ?_
          refine V_clr [3, 5] (ls' := [some (.ref a0), none, some (.int x2), none, some (.int v4), none]) rfl ?_
          exact hk r
theorem w_X3_movedByDue {l : Launch} {d n0 s0 : Nat} (hd : 2 ≤ d) (σ : vMem) (a0 : Nat) (x1 : Int32) (x2 : Int32) : V (P_X3_movedByDue l d n0 s0) (vEmb (ePI σ)) σ 0 [some (.ref a0), some (.int x1), some (.int x2), none, none, none] [] (f_X3_movedByDue σ a0 x1 x2) := by
  have hC : vPx (P_X3_movedByDue l d n0 s0) cX3_movedByDue 6 "NobodyBeenAftModel" (some .int) d := vMP_cx
  refine V_eq (f_X3_movedByDue.eq_1 ..) ?_
  refine V_iload_n hC dX3_movedByDue_0 rfl ?_
  refine V_istore_n (ls' := [some (.ref a0), some (.int x1), some (.int x2), some (.int x1), none, none]) hC dX3_movedByDue_1 (by decide) rfl rfl ?_
  refine V_iconst (v := 0) hC dX3_movedByDue_2 rfl ?_
  refine V_istore (ls' := [some (.ref a0), some (.int x1), some (.int x2), some (.int x1), some (.int 0), none]) hC dX3_movedByDue_3 (by decide) rfl rfl ?_
  refine V_clr [1] (ls' := [some (.ref a0), none, some (.int x2), some (.int x1), some (.int 0), none]) rfl ?_
  exact (w_X3_movedByDue_5 hd σ a0 x2) FU x1 0
theorem c_X3_movedByDue {l : Launch} {d : Nat} (hd : 2 ≤ d) {σ : vMem} {a0 : Nat} {x1 : Int32} {x2 : Int32} {r : Int32} (h : f_X3_movedByDue σ a0 x1 x2 = some r) : vOk l yX3_movedByDue cX3_movedByDue 6 (some .int) d [.ref a0, .int x1, .int x2] σ (.inl (((ePI σ)).1 r, ((ePI σ)).2 r)) := V_method (em := (ePI σ)) [some (.ref a0), some (.int x1), some (.int x2), none, none, none] (by decide +kernel) rfl (Nat.le_of_ble_eq_true rfl) (w_X3_movedByDue hd σ a0 x1 x2) h
/-! NobodyBeenAftModel.mayGive(I)Z -/
def f_X3_mayGive (σ : vMem) (a0 : Nat) (x1 : Int32) : Option (Int32) := vl (some 1) (fun k => if 0 < x1 then k else cko σ a0 [3] (dr (gr σ a0 14) (fun b => cka σ b 105 4 (cko σ a0 [3] (dr (gr σ a0 14) (fun b_1 => cka σ b_1 105 0 (if (gi σ b (Int32.toNatClampNeg 4)) = (gi σ b_1 (Int32.toNatClampNeg 0)) then (some 0) else k)))))))
abbrev P_X3_mayGive (l : Launch) (d n0 s0 : Nat) : vX → Prop := vMP l yX3_mayGive cX3_mayGive 2 (some .boolean) d n0 s0
theorem w_X3_mayGive {l : Launch} {d n0 s0 : Nat} (hd : 0 ≤ d) (σ : vMem) (a0 : Nat) (x1 : Int32) : V (P_X3_mayGive l d n0 s0) (vEmb (ePI σ)) σ 0 [some (.ref a0), some (.int x1)] [] (f_X3_mayGive σ a0 x1) := by
  have hC : vPx (P_X3_mayGive l d n0 s0) cX3_mayGive 2 "NobodyBeenAftModel" (some .boolean) d := vMP_cx
  refine V_eq (f_X3_mayGive.eq_1 ..) ?_
  refine V_iload_n hC dX3_mayGive_0 rfl ?_
  refine V_let (B := fun k => V (P_X3_mayGive l d n0 s0) (vEmb (ePI σ)) σ 19 [none, none] [] (k)) ?_ ?_
  · skip
    refine V_iconst (v := 1) hC dX3_mayGive_19 rfl ?_
    refine V_goto (tgt := 24) hC dX3_mayGive_20 (by decide) ?_
    exact V_zreturn rfl dX3_mayGive_24 rfl rfl
  · intro k hk
    refine V_if_gt (tgt := 19) hC dX3_mayGive_1 (by decide) ?_ ?_
    · refine V_clr [0, 1] (ls' := [none, none]) rfl ?_
      exact hk
    · refine V_aload_n hC dX3_mayGive_4 rfl ?_
      refine g_X3_34 hC dX3_mayGive_5 (fun b => ?_)
      refine V_iconst (v := 4) hC dX3_mayGive_8 rfl ?_
      refine V_iald hC dX3_mayGive_9 ?_
      refine V_aload_n hC dX3_mayGive_10 rfl ?_
      refine g_X3_34 hC dX3_mayGive_11 (fun b_1 => ?_)
      refine V_iconst (v := 0) hC dX3_mayGive_14 rfl ?_
      refine V_iald hC dX3_mayGive_15 ?_
      refine V_icmp_eq (tgt := 23) hC dX3_mayGive_16 (by decide) ?_ ?_
      · refine V_iconst (v := 0) hC dX3_mayGive_23 rfl ?_
        exact V_zreturn rfl dX3_mayGive_24 rfl rfl
      · refine V_clr [0, 1] (ls' := [none, none]) rfl ?_
        exact hk
theorem c_X3_mayGive {l : Launch} {d : Nat} (hd : 0 ≤ d) {σ : vMem} {a0 : Nat} {x1 : Int32} {r : Int32} (h : f_X3_mayGive σ a0 x1 = some r) : vOk l yX3_mayGive cX3_mayGive 2 (some .boolean) d [.ref a0, .int x1] σ (.inl (((ePI σ)).1 r, ((ePI σ)).2 r)) := V_method (em := (ePI σ)) [some (.ref a0), some (.int x1)] (by decide +kernel) rfl (Nat.le_of_ble_eq_true rfl) (w_X3_mayGive hd σ a0 x1) h
/-! NobodyBeenAftModel.comesAt(II)Z -/
def f_X3_comesAt (σ : vMem) (a0 : Nat) (x1 : Int32) (x2 : Int32) : Option (Int32 × vMem) := cko σ a0 [3] (bp (f_X3_mayGive σ a0 x1) (fun r => vl (fun (σ_1 : vMem) => some (0, σ_1)) (fun k => if r = 0 then (k σ) else cko σ a0 [3] (dr (gr σ a0 14) (fun b => cka σ b 105 0 (cko σ a0 [3] (bd (f_X3_delayAt σ a0 ((gi σ b (Int32.toNatClampNeg 0)) + x1)) (fun r_1 σ_2 => if ¬ (x1 + r_1) = x2 then (k σ_2) else some (1, σ_2)))))))))
abbrev P_X3_comesAt (l : Launch) (d n0 s0 : Nat) : vX → Prop := vMP l yX3_comesAt cX3_comesAt 3 (some .boolean) d n0 s0
theorem w_X3_comesAt {l : Launch} {d n0 s0 : Nat} (hd : 4 ≤ d) (σ : vMem) (a0 : Nat) (x1 : Int32) (x2 : Int32) : V (P_X3_comesAt l d n0 s0) (vEmb eI) σ 0 [some (.ref a0), some (.int x1), some (.int x2)] [] (f_X3_comesAt σ a0 x1 x2) := by
  have hC : vPx (P_X3_comesAt l d n0 s0) cX3_comesAt 3 "NobodyBeenAftModel" (some .boolean) d := vMP_cx
  refine V_eq (f_X3_comesAt.eq_1 ..) ?_
  refine V_aload_n hC dX3_comesAt_0 rfl ?_
  refine V_iload_n hC dX3_comesAt_1 rfl ?_
  refine V_cko (fun hm => V_callV_PI (c := 3) (As := [.int x1]) (rest := []) (d' := 0) hC dX3_comesAt_2 1 (lw_V q1744 q1746 qs65 q87 q1747) (by decide +kernel) (List.mem_singleton.mp hm) (by decide) (by decide) rfl rfl rfl (Nat.le_of_ble_eq_true rfl) (Nat.le_trans (by decide) hd) (by decide) vMP_l (fun _ h => c_X3_mayGive (Nat.le_refl _) h) (fun r => ?_))
  refine V_let (B := fun k => ∀ (σ_1 : vMem), V (P_X3_comesAt l d n0 s0) (vEmb eI) σ_1 30 [none, none, none] [] (k σ_1)) ?_ ?_
  · intro σ_1
    refine V_iconst (v := 0) hC dX3_comesAt_30 rfl ?_
    exact V_zreturn rfl dX3_comesAt_31 rfl rfl
  · intro k hk
    refine V_if_eq (tgt := 30) hC dX3_comesAt_5 (by decide) ?_ ?_
    · refine V_clr [0, 1, 2] (ls' := [none, none, none]) rfl ?_
      exact hk σ
    · refine V_iload_n hC dX3_comesAt_8 rfl ?_
      refine V_aload_n hC dX3_comesAt_9 rfl ?_
      refine V_aload_n hC dX3_comesAt_10 rfl ?_
      refine g_X3_34 hC dX3_comesAt_11 (fun b => ?_)
      refine V_iconst (v := 0) hC dX3_comesAt_14 rfl ?_
      refine V_iald hC dX3_comesAt_15 ?_
      refine V_iload_n hC dX3_comesAt_16 rfl ?_
      refine V_iadd hC dX3_comesAt_17 ?_
      refine V_cko (fun hm => V_callV_I (c := 3) (As := [.int ((gi σ b (Int32.toNatClampNeg 0)) + x1)]) (rest := [.int x1]) (d' := 3) hC dX3_comesAt_18 1 (lw_V q1621 q1623 qs47 q87 q1624) (by decide +kernel) (List.mem_singleton.mp hm) (by decide) (by decide) rfl rfl rfl (Nat.le_of_ble_eq_true rfl) (Nat.le_trans (by decide) hd) (by decide) vMP_l (fun _ h => c_X3_delayAt (Nat.le_refl _) h) (fun r_1 σ_2 => ?_))
      refine V_iadd hC dX3_comesAt_21 ?_
      refine V_iload_n hC dX3_comesAt_22 rfl ?_
      refine V_icmp_ne (tgt := 30) hC dX3_comesAt_23 (by decide) ?_ ?_
      · refine V_clr [0, 1, 2] (ls' := [none, none, none]) rfl ?_
        exact hk σ_2
      · refine V_iconst (v := 1) hC dX3_comesAt_26 rfl ?_
        refine V_goto (tgt := 31) hC dX3_comesAt_27 (by decide) ?_
        exact V_zreturn rfl dX3_comesAt_31 rfl rfl
theorem c_X3_comesAt {l : Launch} {d : Nat} (hd : 4 ≤ d) {σ : vMem} {a0 : Nat} {x1 : Int32} {x2 : Int32} {r : Int32 × vMem} (h : f_X3_comesAt σ a0 x1 x2 = some r) : vOk l yX3_comesAt cX3_comesAt 3 (some .boolean) d [.ref a0, .int x1, .int x2] σ (.inl ((eI).1 r, (eI).2 r)) := V_method (em := eI) [some (.ref a0), some (.int x1), some (.int x2)] (by decide +kernel) rfl (Nat.le_of_ble_eq_true rfl) (w_X3_comesAt hd σ a0 x1 x2) h
/-! NobodyBeenAftModel.clears()I -/
def f_X3_clears_180 (a0 : Nat) (v1 : Int32) (v2 : Int32) (v5 : Int32) (σ_6 : vMem) (v4_2 : Int32) (k_3 : Int32 → Option (Int32 × vMem)) : Nat → Int32 → Int32 → Option (Int32 × vMem)
  | 0, _, _ => none
  | n_1 + 1, v3_3, v6_1 => cko σ_6 a0 [3] (if (gi σ_6 a0 6) ≤ v6_1 then (k_3 v3_3) else cko σ_6 a0 [3] (dr (gr σ_6 a0 11) (fun b_1 => cka σ_6 b_1 105 v6_1 (cko σ_6 a0 [3] (dr (gr σ_6 a0 14) (fun b_2 => cka σ_6 b_2 105 0 (vl (fun (y : Int32) => vl (fun (y_1 : Int32) => vl (v3_3 ||| y_1) (fun v3_4 => vl (v6_1 + 1) (fun v6_2 => f_X3_clears_180 a0 v1 v2 v5 σ_6 v4_2 k_3 n_1 v3_4 v6_2))) (fun k_5 => vl (k_5 0) (fun k_6 => if y = 0 then k_6 else cko σ_6 a0 [3] (dr (gr σ_6 a0 12) (fun b_3 => cka σ_6 b_3 105 v6_1 (if (v4_2 &&& ((1 <<< ((gi σ_6 b_3 (Int32.toNatClampNeg v6_1)) &&& 31)) ^^^ (-1))) = 0 then k_6 else k_5 (1 <<< (v6_1 &&& 31)))))))) (fun k_4 => if ¬ (gi σ_6 b_1 (Int32.toNatClampNeg v6_1)) = ((gi σ_6 b_2 (Int32.toNatClampNeg 0)) + v5) then (k_4 0) else k_4 1))))))))
def f_X3_clears_131 (a0 : Nat) (v1 : Int32) (v2 : Int32) (v3_1 : Int32) (v5 : Int32) (k_2 : vMem → Int32 → Option (Int32 × vMem)) : Nat → vMem → Int32 → Int32 → Option (Int32 × vMem)
  | 0, _, _, _ => none
  | n_2 + 1, σ_7, v4_3, v6_3 => if v5 ≤ v6_3 then (k_2 σ_7 v4_3) else cko σ_7 a0 [3] (bd (f_X3_comesAt σ_7 a0 v6_3 v5) (fun r_1 σ_8 => vl (fun (y_2 : Int32) => vl (v4_3 ||| y_2) (fun v4_4 => vl (v6_3 + 1) (fun v6_4 => f_X3_clears_131 a0 v1 v2 v3_1 v5 k_2 n_2 σ_8 v4_4 v6_4))) (fun k_7 => if r_1 = 0 then (k_7 0) else bp (f_X3_moved σ_8 v4_3 (-1)) (fun r_2 => bp (f_X3_moved σ_8 v4_3 1) (fun r_3 => k_7 (r_2 ||| r_3))))))
def f_X3_clears_104 (a0 : Nat) (v1 : Int32) (v2 : Int32) (k_1 : vMem → Int32 → Option (Int32 × vMem)) : Nat → vMem → Int32 → Int32 → Int32 → Option (Int32 × vMem)
  | 0, _, _, _, _ => none
  | n + 1, σ_5, v3_1, v4_1, v5 => if v1 < v5 then (k_1 σ_5 v3_1) else cko σ_5 a0 [3] (bp (f_X3_movedByDue σ_5 a0 v4_1 v5) (fun r => vl (imax 0 (v5 - 12)) (fun v6 => vl (fun (σ_6 : vMem) (v4_2 : Int32) => vl (fun (v3_2 : Int32) => vl (v5 + 1) (fun v5_1 => f_X3_clears_104 a0 v1 v2 k_1 n σ_6 v3_2 v4_2 v5_1)) (fun k_3 => f_X3_clears_180 a0 v1 v2 v5 σ_6 v4_2 k_3 FU v3_1 0)) (fun k_2 => f_X3_clears_131 a0 v1 v2 v3_1 v5 k_2 FU σ_5 r v6))))
def f_X3_clears_11 (a0 : Nat) (σ_1 : vMem) (k : Int32 → Int32 → Option (Int32 × vMem)) : Nat → Int32 → Int32 → Int32 → Option (Int32 × vMem)
  | 0, _, _, _ => none
  | n_3 + 1, v1_1, v2_1, v3_5 => cko σ_1 a0 [3] (if (gi σ_1 a0 6) ≤ v3_5 then (k v1_1 v2_1) else cko σ_1 a0 [3] (dr (gr σ_1 a0 11) (fun b_4 => cka σ_1 b_4 105 v3_5 (cko σ_1 a0 [3] (dr (gr σ_1 a0 14) (fun b_5 => cka σ_1 b_5 105 0 (vl (fun (y_3 : Int32) => vl (fun (y_4 : Int32) => vl (fun (y_5 : Int32) => vl (v2_1 ||| y_5) (fun v2_2 => vl (v3_5 + 1) (fun v3_6 => f_X3_clears_11 a0 σ_1 k n_3 y_4 v2_2 v3_6))) (fun k_10 => if y_3 = 0 then (k_10 0) else k_10 (1 <<< (v3_5 &&& 31)))) (fun k_9 => if y_3 = 0 then (k_9 v1_1) else cko σ_1 a0 [3] (dr (gr σ_1 a0 11) (fun b_6 => cka σ_1 b_6 105 v3_5 (cko σ_1 a0 [3] (dr (gr σ_1 a0 14) (fun b_7 => cka σ_1 b_7 105 0 (k_9 (imax v1_1 ((gi σ_1 b_6 (Int32.toNatClampNeg v3_5)) - (gi σ_1 b_7 (Int32.toNatClampNeg 0)))))))))))) (fun k_8 => if (gi σ_1 b_4 (Int32.toNatClampNeg v3_5)) ≤ (gi σ_1 b_5 (Int32.toNatClampNeg 0)) then (k_8 0) else k_8 1))))))))
def f_X3_clears (σ : vMem) (a0 : Nat) : Option (Int32 × vMem) := cko σ a0 [3] (vl (si σ a0 0 0) (fun σ_1 => vl (fun (v1 : Int32) (v2 : Int32) => cko σ_1 a0 [3] (dr (gr σ_1 a0 14) (fun b => cka σ_1 b 105 1 (vl (1 <<< ((gi σ_1 b (Int32.toNatClampNeg 1)) &&& 31)) (fun v4 => vl (fun (σ_2 : vMem) (v3 : Int32) => cko σ_2 a0 [3] (vl (si σ_2 a0 1 0) (fun σ_3 => cko σ_3 a0 [3] (bv (f_X3_enters σ_3 a0 (Int32.toInt64 (v2 &&& (v3 ^^^ (-1))))) (fun σ_4 => some (v3, σ_4)))))) (fun k_1 => f_X3_clears_104 a0 v1 v2 k_1 FU σ_1 0 v4 1)))))) (fun k => f_X3_clears_11 a0 σ_1 k FU 0 0 0)))
abbrev P_X3_clears (l : Launch) (d n0 s0 : Nat) : vX → Prop := vMP l yX3_clears cX3_clears 8 (some .int) d n0 s0
theorem w_X3_clears_180 {l : Launch} {d n0 s0 : Nat} (hd : 5 ≤ d) (a0 : Nat) (v1 : Int32) (v2 : Int32) (v5 : Int32) (σ_6 : vMem) (v4_2 : Int32) (k_3 : Int32 → Option (Int32 × vMem)) (hk_3 : ∀ (v3_2 : Int32), V (P_X3_clears l d n0 s0) (vEmb eI) σ_6 254 [some (.ref a0), some (.int v1), some (.int v2), some (.int v3_2), some (.int v4_2), some (.int v5), none, none] [] (k_3 v3_2)) : ∀ (n_1 : Nat) (v3_3 : Int32) (v6_1 : Int32), V (P_X3_clears l d n0 s0) (vEmb eI) σ_6 180 [some (.ref a0), some (.int v1), some (.int v2), some (.int v3_3), some (.int v4_2), some (.int v5), some (.int v6_1), none] [] (f_X3_clears_180 a0 v1 v2 v5 σ_6 v4_2 k_3 n_1 v3_3 v6_1) := by
  have hC : vPx (P_X3_clears l d n0 s0) cX3_clears 8 "NobodyBeenAftModel" (some .int) d := vMP_cx
  intro n_1
  induction n_1 with
  | zero =>
    intro v3_3 v6_1
    exact V_none
  | succ n_1 ih =>
    intro v3_3 v6_1
    refine V_eq (f_X3_clears_180.eq_2 ..) ?_
    refine V_iload hC dX3_clears_180 rfl ?_
    refine V_aload_n hC dX3_clears_182 rfl ?_
    refine g_X3_196 hC dX3_clears_183 ?_
    refine V_icmp_ge (tgt := 254) hC dX3_clears_186 (by decide) ?_ ?_
    · refine V_clr [6] (ls' := [some (.ref a0), some (.int v1), some (.int v2), some (.int v3_3), some (.int v4_2), some (.int v5), none, none]) rfl ?_
      exact hk_3 v3_3
    · refine V_aload_n hC dX3_clears_189 rfl ?_
      refine g_X3_25 hC dX3_clears_190 (fun b_1 => ?_)
      refine V_iload hC dX3_clears_193 rfl ?_
      refine V_iald hC dX3_clears_195 ?_
      refine V_aload_n hC dX3_clears_196 rfl ?_
      refine g_X3_34 hC dX3_clears_197 (fun b_2 => ?_)
      refine V_iconst (v := 0) hC dX3_clears_200 rfl ?_
      refine V_iald hC dX3_clears_201 ?_
      refine V_iload hC dX3_clears_202 rfl ?_
      refine V_iadd hC dX3_clears_204 ?_
      refine V_let (B := fun k_4 => ∀ (y : Int32), V (P_X3_clears l d n0 s0) (vEmb eI) σ_6 213 [some (.ref a0), some (.int v1), some (.int v2), some (.int v3_3), some (.int v4_2), some (.int v5), some (.int v6_1), none] [.int y] (k_4 y)) ?_ ?_
      · intro y
        refine V_istore (ls' := [some (.ref a0), some (.int v1), some (.int v2), some (.int v3_3), some (.int v4_2), some (.int v5), some (.int v6_1), some (.int y)]) hC dX3_clears_213 (by decide) rfl rfl ?_
        refine V_iload_n hC dX3_clears_215 rfl ?_
        refine V_iload hC dX3_clears_216 rfl ?_
        refine V_let (B := fun k_5 => ∀ (y_1 : Int32), V (P_X3_clears l d n0 s0) (vEmb eI) σ_6 246 [some (.ref a0), some (.int v1), some (.int v2), none, some (.int v4_2), some (.int v5), some (.int v6_1), none] [.int y_1, .int v3_3] (k_5 y_1)) ?_ ?_
        · intro y_1
          refine V_ior hC dX3_clears_246 ?_
          refine V_istore_nL (ls' := fun v3_4 => [some (.ref a0), some (.int v1), some (.int v2), some (.int v3_4), some (.int v4_2), some (.int v5), some (.int v6_1), none]) hC dX3_clears_247 (by decide) rfl (fun _ => rfl) (fun v3_4 => ?_)
          refine V_iincL (v := v6_1 + 1) (ls' := fun v6_2 => [some (.ref a0), some (.int v1), some (.int v2), some (.int v3_4), some (.int v4_2), some (.int v5), some (.int v6_2), none]) hC dX3_clears_248 rfl (by decide) rfl rfl (fun _ => rfl) (fun v6_2 => ?_)
          refine V_goto (tgt := 180) hC dX3_clears_251 (by decide) ?_
          exact ih v3_4 v6_2
        · intro k_5 hk_5
          refine V_let (B := fun k_6 => V (P_X3_clears l d n0 s0) (vEmb eI) σ_6 245 [some (.ref a0), some (.int v1), some (.int v2), none, some (.int v4_2), some (.int v5), some (.int v6_1), none] [.int v3_3] (k_6)) ?_ ?_
          · skip
            refine V_iconst (v := 0) hC dX3_clears_245 rfl ?_
            exact hk_5 0
          · intro k_6 hk_6
            refine V_if_eq (tgt := 245) hC dX3_clears_218 (by decide) ?_ ?_
            · refine V_clr [3, 7] (ls' := [some (.ref a0), some (.int v1), some (.int v2), none, some (.int v4_2), some (.int v5), some (.int v6_1), none]) rfl ?_
              exact hk_6
            · refine V_iload hC dX3_clears_221 rfl ?_
              refine V_iconst (v := 1) hC dX3_clears_223 rfl ?_
              refine V_aload_n hC dX3_clears_224 rfl ?_
              refine g_X3_28 hC dX3_clears_225 (fun b_3 => ?_)
              refine V_iload hC dX3_clears_228 rfl ?_
              refine V_iald hC dX3_clears_230 ?_
              refine V_ishl hC dX3_clears_231 ?_
              refine V_iconst (v := (-1)) hC dX3_clears_232 rfl ?_
              refine V_ixor hC dX3_clears_233 ?_
              refine V_iand hC dX3_clears_234 ?_
              refine V_if_eq (tgt := 245) hC dX3_clears_235 (by decide) ?_ ?_
              · refine V_clr [3, 7] (ls' := [some (.ref a0), some (.int v1), some (.int v2), none, some (.int v4_2), some (.int v5), some (.int v6_1), none]) rfl ?_
                exact hk_6
              · refine V_iconst (v := 1) hC dX3_clears_238 rfl ?_
                refine V_iload hC dX3_clears_239 rfl ?_
                refine V_ishl hC dX3_clears_241 ?_
                refine V_goto (tgt := 246) hC dX3_clears_242 (by decide) ?_
                refine V_clr [3, 7] (ls' := [some (.ref a0), some (.int v1), some (.int v2), none, some (.int v4_2), some (.int v5), some (.int v6_1), none]) rfl ?_
                exact hk_5 (1 <<< (v6_1 &&& 31))
      · intro k_4 hk_4
        refine V_icmp_ne (tgt := 212) hC dX3_clears_205 (by decide) ?_ ?_
        · refine V_iconst (v := 0) hC dX3_clears_212 rfl ?_
          exact hk_4 0
        · refine V_iconst (v := 1) hC dX3_clears_208 rfl ?_
          refine V_goto (tgt := 213) hC dX3_clears_209 (by decide) ?_
          exact hk_4 1
theorem w_X3_clears_131 {l : Launch} {d n0 s0 : Nat} (hd : 5 ≤ d) (a0 : Nat) (v1 : Int32) (v2 : Int32) (v3_1 : Int32) (v5 : Int32) (k_2 : vMem → Int32 → Option (Int32 × vMem)) (hk_2 : ∀ (σ_6 : vMem), ∀ (v4_2 : Int32), V (P_X3_clears l d n0 s0) (vEmb eI) σ_6 177 [some (.ref a0), some (.int v1), some (.int v2), some (.int v3_1), some (.int v4_2), some (.int v5), none, none] [] (k_2 σ_6 v4_2)) : ∀ (n_2 : Nat) (σ_7 : vMem) (v4_3 : Int32) (v6_3 : Int32), V (P_X3_clears l d n0 s0) (vEmb eI) σ_7 131 [some (.ref a0), some (.int v1), some (.int v2), some (.int v3_1), some (.int v4_3), some (.int v5), some (.int v6_3), none] [] (f_X3_clears_131 a0 v1 v2 v3_1 v5 k_2 n_2 σ_7 v4_3 v6_3) := by
  have hC : vPx (P_X3_clears l d n0 s0) cX3_clears 8 "NobodyBeenAftModel" (some .int) d := vMP_cx
  intro n_2
  induction n_2 with
  | zero =>
    intro σ_7 v4_3 v6_3
    exact V_none
  | succ n_2 ih =>
    intro σ_7 v4_3 v6_3
    refine V_eq (f_X3_clears_131.eq_2 ..) ?_
    refine V_iload hC dX3_clears_131 rfl ?_
    refine V_iload hC dX3_clears_133 rfl ?_
    refine V_icmp_ge (tgt := 177) hC dX3_clears_135 (by decide) ?_ ?_
    · refine V_clr [6] (ls' := [some (.ref a0), some (.int v1), some (.int v2), some (.int v3_1), some (.int v4_3), some (.int v5), none, none]) rfl ?_
      exact hk_2 σ_7 v4_3
    · refine V_iload hC dX3_clears_138 rfl ?_
      refine V_aload_n hC dX3_clears_140 rfl ?_
      refine V_iload hC dX3_clears_141 rfl ?_
      refine V_iload hC dX3_clears_143 rfl ?_
      refine V_cko (fun hm => V_callV_I (c := 3) (As := [.int v6_3, .int v5]) (rest := [.int v4_3]) (d' := 4) hC dX3_clears_145 2 (lw_V q1740 q1742 qs64 q87 q1743) (by decide +kernel) (List.mem_singleton.mp hm) (by decide) (by decide) rfl rfl rfl (Nat.le_of_ble_eq_true rfl) (Nat.le_trans (by decide) hd) (by decide) vMP_l (fun _ h => c_X3_comesAt (Nat.le_refl _) h) (fun r_1 σ_8 => ?_))
      refine V_let (B := fun k_7 => ∀ (y_2 : Int32), V (P_X3_clears l d n0 s0) (vEmb eI) σ_8 168 [some (.ref a0), some (.int v1), some (.int v2), some (.int v3_1), none, some (.int v5), some (.int v6_3), none] [.int y_2, .int v4_3] (k_7 y_2)) ?_ ?_
      · intro y_2
        refine V_ior hC dX3_clears_168 ?_
        refine V_istoreL (ls' := fun v4_4 => [some (.ref a0), some (.int v1), some (.int v2), some (.int v3_1), some (.int v4_4), some (.int v5), some (.int v6_3), none]) hC dX3_clears_169 (by decide) rfl (fun _ => rfl) (fun v4_4 => ?_)
        refine V_iincL (v := v6_3 + 1) (ls' := fun v6_4 => [some (.ref a0), some (.int v1), some (.int v2), some (.int v3_1), some (.int v4_4), some (.int v5), some (.int v6_4), none]) hC dX3_clears_171 rfl (by decide) rfl rfl (fun _ => rfl) (fun v6_4 => ?_)
        refine V_goto (tgt := 131) hC dX3_clears_174 (by decide) ?_
        exact ih σ_8 v4_4 v6_4
      · intro k_7 hk_7
        refine V_if_eq (tgt := 167) hC dX3_clears_148 (by decide) ?_ ?_
        · refine V_iconst (v := 0) hC dX3_clears_167 rfl ?_
          refine V_clr [4] (ls' := [some (.ref a0), some (.int v1), some (.int v2), some (.int v3_1), none, some (.int v5), some (.int v6_3), none]) rfl ?_
          exact hk_7 0
        · refine V_iload hC dX3_clears_151 rfl ?_
          refine V_iconst (v := (-1)) hC dX3_clears_153 rfl ?_
          refine V_callS_PI (As := [.int v4_3, .int (-1)]) (rest := [.int v4_3]) (d' := 1) hC dX3_clears_154 2 (lw_S q1734 q1735 q87 q1736) (by decide +kernel) rfl rfl (Nat.le_of_ble_eq_true rfl) (Nat.le_trans (by decide) hd) (by decide) vMP_l (fun _ h => c_X3_moved (Nat.le_refl _) h) (fun r_2 => ?_)
          refine V_iload hC dX3_clears_157 rfl ?_
          refine V_iconst (v := 1) hC dX3_clears_159 rfl ?_
          refine V_callS_PI (As := [.int v4_3, .int 1]) (rest := [.int r_2, .int v4_3]) (d' := 1) hC dX3_clears_160 2 (lw_S q1734 q1735 q87 q1736) (by decide +kernel) rfl rfl (Nat.le_of_ble_eq_true rfl) (Nat.le_trans (by decide) hd) (by decide) vMP_l (fun _ h => c_X3_moved (Nat.le_refl _) h) (fun r_3 => ?_)
          refine V_ior hC dX3_clears_163 ?_
          refine V_goto (tgt := 168) hC dX3_clears_164 (by decide) ?_
          refine V_clr [4] (ls' := [some (.ref a0), some (.int v1), some (.int v2), some (.int v3_1), none, some (.int v5), some (.int v6_3), none]) rfl ?_
          exact hk_7 (r_2 ||| r_3)
theorem w_X3_clears_104 {l : Launch} {d n0 s0 : Nat} (hd : 5 ≤ d) (a0 : Nat) (v1 : Int32) (v2 : Int32) (k_1 : vMem → Int32 → Option (Int32 × vMem)) (hk_1 : ∀ (σ_2 : vMem), ∀ (v3 : Int32), V (P_X3_clears l d n0 s0) (vEmb eI) σ_2 260 [some (.ref a0), none, some (.int v2), some (.int v3), none, none, none, none] [] (k_1 σ_2 v3)) : ∀ (n : Nat) (σ_5 : vMem) (v3_1 : Int32) (v4_1 : Int32) (v5 : Int32), V (P_X3_clears l d n0 s0) (vEmb eI) σ_5 104 [some (.ref a0), some (.int v1), some (.int v2), some (.int v3_1), some (.int v4_1), some (.int v5), none, none] [] (f_X3_clears_104 a0 v1 v2 k_1 n σ_5 v3_1 v4_1 v5) := by
  have hC : vPx (P_X3_clears l d n0 s0) cX3_clears 8 "NobodyBeenAftModel" (some .int) d := vMP_cx
  intro n
  induction n with
  | zero =>
    intro σ_5 v3_1 v4_1 v5
    exact V_none
  | succ n ih =>
    intro σ_5 v3_1 v4_1 v5
    refine V_eq (f_X3_clears_104.eq_2 ..) ?_
    refine V_iload hC dX3_clears_104 rfl ?_
    refine V_iload_n hC dX3_clears_106 rfl ?_
    refine V_icmp_gt (tgt := 260) hC dX3_clears_107 (by decide) ?_ ?_
    · refine V_clr [1, 4, 5] (ls' := [some (.ref a0), none, some (.int v2), some (.int v3_1), none, none, none, none]) rfl ?_
      exact hk_1 σ_5 v3_1
    · refine V_aload_n hC dX3_clears_110 rfl ?_
      refine V_iload hC dX3_clears_111 rfl ?_
      refine V_iload hC dX3_clears_113 rfl ?_
      refine V_cko (fun hm => V_callV_PI (c := 3) (As := [.int v4_1, .int v5]) (rest := []) (d' := 2) hC dX3_clears_115 2 (lw_V q1730 q1732 qs63 q87 q1733) (by decide +kernel) (List.mem_singleton.mp hm) (by decide) (by decide) rfl rfl rfl (Nat.le_of_ble_eq_true rfl) (Nat.le_trans (by decide) hd) (by decide) vMP_l (fun _ h => c_X3_movedByDue (Nat.le_refl _) h) (fun r => ?_))
      refine V_istore (ls' := [some (.ref a0), some (.int v1), some (.int v2), some (.int v3_1), some (.int r), some (.int v5), none, none]) hC dX3_clears_118 (by decide) rfl rfl ?_
      refine V_iconst (v := 0) hC dX3_clears_120 rfl ?_
      refine V_iload hC dX3_clears_121 rfl ?_
      refine V_bipush (v := 12) hC dX3_clears_123 rfl ?_
      refine V_isub hC dX3_clears_125 ?_
      refine V_mmax hC dX3_clears_126 q1612 q677 q90 q678 (Nat.le_of_ble_eq_true rfl) ?_
      refine V_istoreL (ls' := fun v6 => [some (.ref a0), some (.int v1), some (.int v2), some (.int v3_1), some (.int r), some (.int v5), some (.int v6), none]) hC dX3_clears_129 (by decide) rfl (fun _ => rfl) (fun v6 => ?_)
      refine V_let (B := fun k_2 => ∀ (σ_6 : vMem), ∀ (v4_2 : Int32), V (P_X3_clears l d n0 s0) (vEmb eI) σ_6 177 [some (.ref a0), some (.int v1), some (.int v2), some (.int v3_1), some (.int v4_2), some (.int v5), none, none] [] (k_2 σ_6 v4_2)) ?_ ?_
      · intro σ_6 v4_2
        refine V_iconst (v := 0) hC dX3_clears_177 rfl ?_
        refine V_istore (ls' := [some (.ref a0), some (.int v1), some (.int v2), some (.int v3_1), some (.int v4_2), some (.int v5), some (.int 0), none]) hC dX3_clears_178 (by decide) rfl rfl ?_
        refine V_let (B := fun k_3 => ∀ (v3_2 : Int32), V (P_X3_clears l d n0 s0) (vEmb eI) σ_6 254 [some (.ref a0), some (.int v1), some (.int v2), some (.int v3_2), some (.int v4_2), some (.int v5), none, none] [] (k_3 v3_2)) ?_ ?_
        · intro v3_2
          refine V_iincL (v := v5 + 1) (ls' := fun v5_1 => [some (.ref a0), some (.int v1), some (.int v2), some (.int v3_2), some (.int v4_2), some (.int v5_1), none, none]) hC dX3_clears_254 rfl (by decide) rfl rfl (fun _ => rfl) (fun v5_1 => ?_)
          refine V_goto (tgt := 104) hC dX3_clears_257 (by decide) ?_
          exact ih σ_6 v3_2 v4_2 v5_1
        · intro k_3 hk_3
          exact (w_X3_clears_180 hd a0 v1 v2 v5 σ_6 v4_2 k_3 hk_3) FU v3_1 0
      · intro k_2 hk_2
        exact (w_X3_clears_131 hd a0 v1 v2 v3_1 v5 k_2 hk_2) FU σ_5 r v6
theorem w_X3_clears_11 {l : Launch} {d n0 s0 : Nat} (hd : 5 ≤ d) (a0 : Nat) (σ_1 : vMem) (k : Int32 → Int32 → Option (Int32 × vMem)) (hk : ∀ (v1 : Int32), ∀ (v2 : Int32), V (P_X3_clears l d n0 s0) (vEmb eI) σ_1 89 [some (.ref a0), some (.int v1), some (.int v2), none, none, none, none, none] [] (k v1 v2)) : ∀ (n_3 : Nat) (v1_1 : Int32) (v2_1 : Int32) (v3_5 : Int32), V (P_X3_clears l d n0 s0) (vEmb eI) σ_1 11 [some (.ref a0), some (.int v1_1), some (.int v2_1), some (.int v3_5), none, none, none, none] [] (f_X3_clears_11 a0 σ_1 k n_3 v1_1 v2_1 v3_5) := by
  have hC : vPx (P_X3_clears l d n0 s0) cX3_clears 8 "NobodyBeenAftModel" (some .int) d := vMP_cx
  intro n_3
  induction n_3 with
  | zero =>
    intro v1_1 v2_1 v3_5
    exact V_none
  | succ n_3 ih =>
    intro v1_1 v2_1 v3_5
    refine V_eq (f_X3_clears_11.eq_2 ..) ?_
    refine V_iload_n hC dX3_clears_11 rfl ?_
    refine V_aload_n hC dX3_clears_12 rfl ?_
    refine g_X3_196 hC dX3_clears_13 ?_
    refine V_icmp_ge (tgt := 89) hC dX3_clears_16 (by decide) ?_ ?_
    · refine V_clr [3] (ls' := [some (.ref a0), some (.int v1_1), some (.int v2_1), none, none, none, none, none]) rfl ?_
      exact hk v1_1 v2_1
    · refine V_aload_n hC dX3_clears_19 rfl ?_
      refine g_X3_25 hC dX3_clears_20 (fun b_4 => ?_)
      refine V_iload_n hC dX3_clears_23 rfl ?_
      refine V_iald hC dX3_clears_24 ?_
      refine V_aload_n hC dX3_clears_25 rfl ?_
      refine g_X3_34 hC dX3_clears_26 (fun b_5 => ?_)
      refine V_iconst (v := 0) hC dX3_clears_29 rfl ?_
      refine V_iald hC dX3_clears_30 ?_
      refine V_let (B := fun k_8 => ∀ (y_3 : Int32), V (P_X3_clears l d n0 s0) (vEmb eI) σ_1 39 [some (.ref a0), some (.int v1_1), some (.int v2_1), some (.int v3_5), none, none, none, none] [.int y_3] (k_8 y_3)) ?_ ?_
      · intro y_3
        refine V_istore (ls' := [some (.ref a0), some (.int v1_1), some (.int v2_1), some (.int v3_5), some (.int y_3), none, none, none]) hC dX3_clears_39 (by decide) rfl rfl ?_
        refine V_iload hC dX3_clears_41 rfl ?_
        refine V_let (B := fun k_9 => ∀ (y_4 : Int32), V (P_X3_clears l d n0 s0) (vEmb eI) σ_1 67 [some (.ref a0), none, some (.int v2_1), some (.int v3_5), some (.int y_3), none, none, none] [.int y_4] (k_9 y_4)) ?_ ?_
        · intro y_4
          refine V_istore_n (ls' := [some (.ref a0), some (.int y_4), some (.int v2_1), some (.int v3_5), some (.int y_3), none, none, none]) hC dX3_clears_67 (by decide) rfl rfl ?_
          refine V_iload_n hC dX3_clears_68 rfl ?_
          refine V_iload hC dX3_clears_69 rfl ?_
          refine V_let (B := fun k_10 => ∀ (y_5 : Int32), V (P_X3_clears l d n0 s0) (vEmb eI) σ_1 81 [some (.ref a0), some (.int y_4), none, some (.int v3_5), none, none, none, none] [.int y_5, .int v2_1] (k_10 y_5)) ?_ ?_
          · intro y_5
            refine V_ior hC dX3_clears_81 ?_
            refine V_istore_nL (ls' := fun v2_2 => [some (.ref a0), some (.int y_4), some (.int v2_2), some (.int v3_5), none, none, none, none]) hC dX3_clears_82 (by decide) rfl (fun _ => rfl) (fun v2_2 => ?_)
            refine V_iincL (v := v3_5 + 1) (ls' := fun v3_6 => [some (.ref a0), some (.int y_4), some (.int v2_2), some (.int v3_6), none, none, none, none]) hC dX3_clears_83 rfl (by decide) rfl rfl (fun _ => rfl) (fun v3_6 => ?_)
            refine V_goto (tgt := 11) hC dX3_clears_86 (by decide) ?_
            exact ih y_4 v2_2 v3_6
          · intro k_10 hk_10
            refine V_if_eq (tgt := 80) hC dX3_clears_71 (by decide) ?_ ?_
            · refine V_iconst (v := 0) hC dX3_clears_80 rfl ?_
              refine V_clr [2, 4] (ls' := [some (.ref a0), some (.int y_4), none, some (.int v3_5), none, none, none, none]) rfl ?_
              exact hk_10 0
            · refine V_iconst (v := 1) hC dX3_clears_74 rfl ?_
              refine V_iload_n hC dX3_clears_75 rfl ?_
              refine V_ishl hC dX3_clears_76 ?_
              refine V_goto (tgt := 81) hC dX3_clears_77 (by decide) ?_
              refine V_clr [2, 4] (ls' := [some (.ref a0), some (.int y_4), none, some (.int v3_5), none, none, none, none]) rfl ?_
              exact hk_10 (1 <<< (v3_5 &&& 31))
        · intro k_9 hk_9
          refine V_if_eq (tgt := 66) hC dX3_clears_43 (by decide) ?_ ?_
          · refine V_iload_n hC dX3_clears_66 rfl ?_
            refine V_clr [1] (ls' := [some (.ref a0), none, some (.int v2_1), some (.int v3_5), some (.int y_3), none, none, none]) rfl ?_
            exact hk_9 v1_1
          · refine V_iload_n hC dX3_clears_46 rfl ?_
            refine V_aload_n hC dX3_clears_47 rfl ?_
            refine g_X3_25 hC dX3_clears_48 (fun b_6 => ?_)
            refine V_iload_n hC dX3_clears_51 rfl ?_
            refine V_iald hC dX3_clears_52 ?_
            refine V_aload_n hC dX3_clears_53 rfl ?_
            refine g_X3_34 hC dX3_clears_54 (fun b_7 => ?_)
            refine V_iconst (v := 0) hC dX3_clears_57 rfl ?_
            refine V_iald hC dX3_clears_58 ?_
            refine V_isub hC dX3_clears_59 ?_
            refine V_mmax hC dX3_clears_60 q1612 q677 q90 q678 (Nat.le_of_ble_eq_true rfl) ?_
            refine V_goto (tgt := 67) hC dX3_clears_63 (by decide) ?_
            refine V_clr [1] (ls' := [some (.ref a0), none, some (.int v2_1), some (.int v3_5), some (.int y_3), none, none, none]) rfl ?_
            exact hk_9 (imax v1_1 ((gi σ_1 b_6 (Int32.toNatClampNeg v3_5)) - (gi σ_1 b_7 (Int32.toNatClampNeg 0))))
      · intro k_8 hk_8
        refine V_icmp_le (tgt := 38) hC dX3_clears_31 (by decide) ?_ ?_
        · refine V_iconst (v := 0) hC dX3_clears_38 rfl ?_
          exact hk_8 0
        · refine V_iconst (v := 1) hC dX3_clears_34 rfl ?_
          refine V_goto (tgt := 39) hC dX3_clears_35 (by decide) ?_
          exact hk_8 1
theorem w_X3_clears {l : Launch} {d n0 s0 : Nat} (hd : 5 ≤ d) (σ : vMem) (a0 : Nat) : V (P_X3_clears l d n0 s0) (vEmb eI) σ 0 [some (.ref a0), none, none, none, none, none, none, none] [] (f_X3_clears σ a0) := by
  have hC : vPx (P_X3_clears l d n0 s0) cX3_clears 8 "NobodyBeenAftModel" (some .int) d := vMP_cx
  refine V_eq (f_X3_clears.eq_1 ..) ?_
  refine V_aload_n hC dX3_clears_0 rfl ?_
  refine V_iconst (v := 0) hC dX3_clears_1 rfl ?_
  refine p_X3_103 hC dX3_clears_2 (fun σ_1 => ?_)
  refine V_iconst (v := 0) hC dX3_clears_5 rfl ?_
  refine V_istore_n (ls' := [some (.ref a0), some (.int 0), none, none, none, none, none, none]) hC dX3_clears_6 (by decide) rfl rfl ?_
  refine V_iconst (v := 0) hC dX3_clears_7 rfl ?_
  refine V_istore_n (ls' := [some (.ref a0), some (.int 0), some (.int 0), none, none, none, none, none]) hC dX3_clears_8 (by decide) rfl rfl ?_
  refine V_iconst (v := 0) hC dX3_clears_9 rfl ?_
  refine V_istore_n (ls' := [some (.ref a0), some (.int 0), some (.int 0), some (.int 0), none, none, none, none]) hC dX3_clears_10 (by decide) rfl rfl ?_
  refine V_let (B := fun k => ∀ (v1 : Int32), ∀ (v2 : Int32), V (P_X3_clears l d n0 s0) (vEmb eI) σ_1 89 [some (.ref a0), some (.int v1), some (.int v2), none, none, none, none, none] [] (k v1 v2)) ?_ ?_
  · intro v1 v2
    refine V_iconst (v := 0) hC dX3_clears_89 rfl ?_
    refine V_istore_n (ls' := [some (.ref a0), some (.int v1), some (.int v2), some (.int 0), none, none, none, none]) hC dX3_clears_90 (by decide) rfl rfl ?_
    refine V_iconst (v := 1) hC dX3_clears_91 rfl ?_
    refine V_aload_n hC dX3_clears_92 rfl ?_
    refine g_X3_34 hC dX3_clears_93 (fun b => ?_)
    refine V_iconst (v := 1) hC dX3_clears_96 rfl ?_
    refine V_iald hC dX3_clears_97 ?_
    refine V_ishl hC dX3_clears_98 ?_
    refine V_istoreL (ls' := fun v4 => [some (.ref a0), some (.int v1), some (.int v2), some (.int 0), some (.int v4), none, none, none]) hC dX3_clears_99 (by decide) rfl (fun _ => rfl) (fun v4 => ?_)
    refine V_iconst (v := 1) hC dX3_clears_101 rfl ?_
    refine V_istore (ls' := [some (.ref a0), some (.int v1), some (.int v2), some (.int 0), some (.int v4), some (.int 1), none, none]) hC dX3_clears_102 (by decide) rfl rfl ?_
    refine V_let (B := fun k_1 => ∀ (σ_2 : vMem), ∀ (v3 : Int32), V (P_X3_clears l d n0 s0) (vEmb eI) σ_2 260 [some (.ref a0), none, some (.int v2), some (.int v3), none, none, none, none] [] (k_1 σ_2 v3)) ?_ ?_
    · intro σ_2 v3
      refine V_aload_n hC dX3_clears_260 rfl ?_
      refine V_iconst (v := 0) hC dX3_clears_261 rfl ?_
      refine p_X3_110 hC dX3_clears_262 (fun σ_3 => ?_)
      refine V_aload_n hC dX3_clears_265 rfl ?_
      refine V_iload_n hC dX3_clears_266 rfl ?_
      refine V_iload_n hC dX3_clears_267 rfl ?_
      refine V_iconst (v := (-1)) hC dX3_clears_268 rfl ?_
      refine V_ixor hC dX3_clears_269 ?_
      refine V_iand hC dX3_clears_270 ?_
      refine V_i2l hC dX3_clears_271 ?_
      refine V_cko (fun hm => V_callV_V (c := 3) (As := [.long (Int32.toInt64 (v2 &&& (v3 ^^^ (-1))))]) (rest := []) (d' := 0) hC dX3_clears_272 1 (lw_V q1697 q1699 qs59 q87 q1700) (by decide +kernel) (List.mem_singleton.mp hm) (by decide) (by decide) rfl rfl rfl (Nat.le_of_ble_eq_true rfl) (Nat.le_trans (by decide) hd) (by decide) vMP_l (fun _ h => c_X3_enters (Nat.le_refl _) h) (fun σ_4 => ?_))
      refine V_iload_n hC dX3_clears_275 rfl ?_
      exact V_ireturn dX3_clears_276 rfl rfl
    · intro k_1 hk_1
      exact (w_X3_clears_104 hd a0 v1 v2 k_1 hk_1) FU σ_1 0 v4 1
  · intro k hk
    exact (w_X3_clears_11 hd a0 σ_1 k hk) FU 0 0 0
theorem c_X3_clears {l : Launch} {d : Nat} (hd : 5 ≤ d) {σ : vMem} {a0 : Nat} {r : Int32 × vMem} (h : f_X3_clears σ a0 = some r) : vOk l yX3_clears cX3_clears 8 (some .int) d [.ref a0] σ (.inl ((eI).1 r, (eI).2 r)) := V_method (em := eI) [some (.ref a0), none, none, none, none, none, none, none] (by decide +kernel) rfl (Nat.le_of_ble_eq_true rfl) (w_X3_clears hd σ a0) h
/-! NobodyBeenAftModel.choosesAny(I)V -/
def f_X3_choosesAny_2 (a0 : Nat) (x1 : Int32) : Nat → vMem → Int32 → Option (vMem)
  | 0, _, _ => none
  | n + 1, σ_1, v2 => if 30 ≤ v2 then (some σ_1) else cko σ_1 a0 [3] (dr (gr σ_1 a0 36) (fun b => vl (fun (y : Int32) => cka σ_1 b 105 v2 (vl (si σ_1 b (Int32.toNatClampNeg v2) y) (fun σ_2 => vl (v2 + 1) (fun v2_1 => f_X3_choosesAny_2 a0 x1 n σ_2 v2_1)))) (fun k => if x1 ≤ v2 then (k 2) else k 0)))
def f_X3_choosesAny (σ : vMem) (a0 : Nat) (x1 : Int32) : Option (vMem) := f_X3_choosesAny_2 a0 x1 FU σ 0
abbrev P_X3_choosesAny (l : Launch) (d n0 s0 : Nat) : vX → Prop := vMP l yX3_choosesAny cX3_choosesAny 3 none d n0 s0
theorem w_X3_choosesAny_2 {l : Launch} {d n0 s0 : Nat} (hd : 0 ≤ d) (a0 : Nat) (x1 : Int32)  : ∀ (n : Nat) (σ_1 : vMem) (v2 : Int32), V (P_X3_choosesAny l d n0 s0) (vEmb eV) σ_1 2 [some (.ref a0), some (.int x1), some (.int v2)] [] (f_X3_choosesAny_2 a0 x1 n σ_1 v2) := by
  have hC : vPx (P_X3_choosesAny l d n0 s0) cX3_choosesAny 3 "NobodyBeenAftModel" none d := vMP_cx
  intro n
  induction n with
  | zero =>
    intro σ_1 v2
    exact V_none
  | succ n ih =>
    intro σ_1 v2
    refine V_eq (f_X3_choosesAny_2.eq_2 ..) ?_
    refine V_iload_n hC dX3_choosesAny_2 rfl ?_
    refine V_bipush (v := 30) hC dX3_choosesAny_3 rfl ?_
    refine V_icmp_ge (tgt := 30) hC dX3_choosesAny_5 (by decide) ?_ ?_
    · exact V_return dX3_choosesAny_30 rfl rfl
    · refine V_aload_n hC dX3_choosesAny_8 rfl ?_
      refine g_X3_67 hC dX3_choosesAny_9 (fun b => ?_)
      refine V_iload_n hC dX3_choosesAny_12 rfl ?_
      refine V_iload_n hC dX3_choosesAny_13 rfl ?_
      refine V_iload_n hC dX3_choosesAny_14 rfl ?_
      refine V_let (B := fun k => ∀ (y : Int32), V (P_X3_choosesAny l d n0 s0) (vEmb eV) σ_1 23 [some (.ref a0), some (.int x1), some (.int v2)] [.int y, .int v2, .ref b] (k y)) ?_ ?_
      · intro y
        refine V_iast hC dX3_choosesAny_23 (fun σ_2 => ?_)
        refine V_iincL (v := v2 + 1) (ls' := fun v2_1 => [some (.ref a0), some (.int x1), some (.int v2_1)]) hC dX3_choosesAny_24 rfl (by decide) rfl rfl (fun _ => rfl) (fun v2_1 => ?_)
        refine V_goto (tgt := 2) hC dX3_choosesAny_27 (by decide) ?_
        exact ih σ_2 v2_1
      · intro k hk
        refine V_icmp_ge (tgt := 22) hC dX3_choosesAny_15 (by decide) ?_ ?_
        · refine V_iconst (v := 2) hC dX3_choosesAny_22 rfl ?_
          exact hk 2
        · refine V_iconst (v := 0) hC dX3_choosesAny_18 rfl ?_
          refine V_goto (tgt := 23) hC dX3_choosesAny_19 (by decide) ?_
          exact hk 0
theorem w_X3_choosesAny {l : Launch} {d n0 s0 : Nat} (hd : 0 ≤ d) (σ : vMem) (a0 : Nat) (x1 : Int32) : V (P_X3_choosesAny l d n0 s0) (vEmb eV) σ 0 [some (.ref a0), some (.int x1), none] [] (f_X3_choosesAny σ a0 x1) := by
  have hC : vPx (P_X3_choosesAny l d n0 s0) cX3_choosesAny 3 "NobodyBeenAftModel" none d := vMP_cx
  refine V_eq (f_X3_choosesAny.eq_1 ..) ?_
  refine V_iconst (v := 0) hC dX3_choosesAny_0 rfl ?_
  refine V_istore_n (ls' := [some (.ref a0), some (.int x1), some (.int 0)]) hC dX3_choosesAny_1 (by decide) rfl rfl ?_
  exact (w_X3_choosesAny_2 hd a0 x1) FU σ 0
theorem c_X3_choosesAny {l : Launch} {d : Nat} (hd : 0 ≤ d) {σ : vMem} {a0 : Nat} {x1 : Int32} {r : vMem} (h : f_X3_choosesAny σ a0 x1 = some r) : vOk l yX3_choosesAny cX3_choosesAny 3 none d [.ref a0, .int x1] σ (.inl ((eV).1 r, (eV).2 r)) := V_method (em := eV) [some (.ref a0), some (.int x1), none] (by decide +kernel) rfl (Nat.le_of_ble_eq_true rfl) (w_X3_choosesAny hd σ a0 x1) h
/-! NobodyBeenAftModel.goesBy(IZ)V -/
def f_X3_goesBy_120 (a0 : Nat) : Nat → vMem → Int32 → Option (vMem)
  | 0, _, _ => none
  | n + 1, σ_3, v3 => if 9 ≤ v3 then (some σ_3) else cko σ_3 a0 [3] (dr (gr σ_3 a0 37) (fun b => cko σ_3 a0 [3] (dr (gr σ_3 a0 38) (fun b_1 => cka σ_3 b_1 105 v3 (cka σ_3 b 105 v3 (vl (si σ_3 b (Int32.toNatClampNeg v3) (gi σ_3 b_1 (Int32.toNatClampNeg v3))) (fun σ_4 => vl (v3 + 1) (fun v3_1 => f_X3_goesBy_120 a0 n σ_4 v3_1))))))))
def f_X3_goesBy_49 (a0 : Nat) (x1 : Int32) (x2 : Int32) (v3_2 : Int32) (k_4 : vMem → Option (vMem)) : Nat → vMem → Int32 → Option (vMem)
  | 0, _, _ => none
  | n_2 + 1, σ_7, v4 => if 9 ≤ v4 then (k_4 σ_7) else bp (f_X3_put σ_7 (v4 + v3_2)) (fun r => cko σ_7 a0 [3] (dr (gr σ_7 a0 38) (fun b_2 => cko σ_7 a0 [3] (dr (gr σ_7 a0 38) (fun b_3 => cka σ_7 b_3 105 r (cko σ_7 a0 [3] (dr (gr σ_7 a0 37) (fun b_4 => cka σ_7 b_4 105 v4 (vl (fun (y_2 : Int32) => bp (f_X3_flag σ_7 y_2) (fun r_1 => cka σ_7 b_2 105 r (vl (si σ_7 b_2 (Int32.toNatClampNeg r) (imin (gi σ_7 b_3 (Int32.toNatClampNeg r)) ((gi σ_7 b_4 (Int32.toNatClampNeg v4)) + r_1))) (fun σ_8 => vl (v4 + 1) (fun v4_1 => f_X3_goesBy_49 a0 x1 x2 v3_2 k_4 n_2 σ_8 v4_1))))) (fun k_5 => vl (k_5 0) (fun k_6 => if x2 = 0 then k_6 else if v3_2 = 0 then k_6 else k_5 1)))))))))))
def f_X3_goesBy_33 (a0 : Nat) (x1 : Int32) (x2 : Int32) (k_2 : vMem → Option (vMem)) : Nat → vMem → Int32 → Option (vMem)
  | 0, _, _ => none
  | n_1 + 1, σ_5, v3_2 => vl (fun (y_1 : Int32) => if y_1 < v3_2 then (k_2 σ_5) else vl (fun (σ_6 : vMem) => vl (v3_2 + 1) (fun v3_3 => f_X3_goesBy_33 a0 x1 x2 k_2 n_1 σ_6 v3_3)) (fun k_4 => f_X3_goesBy_49 a0 x1 x2 v3_2 k_4 FU σ_5 0)) (fun k_3 => if x2 = 0 then (k_3 x1) else k_3 1)
def f_X3_goesBy_2 (a0 : Nat) (x1 : Int32) (x2 : Int32) (k : vMem → Option (vMem)) : Nat → vMem → Int32 → Option (vMem)
  | 0, _, _ => none
  | n_3 + 1, σ_9, v3_4 => if 9 ≤ v3_4 then (k σ_9) else cko σ_9 a0 [3] (dr (gr σ_9 a0 38) (fun b_5 => cka σ_9 b_5 105 v3_4 (vl (si σ_9 b_5 (Int32.toNatClampNeg v3_4) 1000) (fun σ_10 => vl (v3_4 + 1) (fun v3_5 => f_X3_goesBy_2 a0 x1 x2 k n_3 σ_10 v3_5)))))
def f_X3_goesBy (σ : vMem) (a0 : Nat) (x1 : Int32) (x2 : Int32) : Option (vMem) := vl (fun (σ_1 : vMem) => vl (fun (y : Int32) => vl (fun (σ_2 : vMem) => f_X3_goesBy_120 a0 FU σ_2 0) (fun k_2 => f_X3_goesBy_33 a0 x1 x2 k_2 FU σ_1 y)) (fun k_1 => if x2 = 0 then (k_1 x1) else k_1 (-1))) (fun k => f_X3_goesBy_2 a0 x1 x2 k FU σ 0)
abbrev P_X3_goesBy (l : Launch) (d n0 s0 : Nat) : vX → Prop := vMP l yX3_goesBy cX3_goesBy 6 none d n0 s0
theorem w_X3_goesBy_120 {l : Launch} {d n0 s0 : Nat} (hd : 1 ≤ d) (a0 : Nat)  : ∀ (n : Nat) (σ_3 : vMem) (v3 : Int32), V (P_X3_goesBy l d n0 s0) (vEmb eV) σ_3 120 [some (.ref a0), none, none, some (.int v3), none, none] [] (f_X3_goesBy_120 a0 n σ_3 v3) := by
  have hC : vPx (P_X3_goesBy l d n0 s0) cX3_goesBy 6 "NobodyBeenAftModel" none d := vMP_cx
  intro n
  induction n with
  | zero =>
    intro σ_3 v3
    exact V_none
  | succ n ih =>
    intro σ_3 v3
    refine V_eq (f_X3_goesBy_120.eq_2 ..) ?_
    refine V_iload_n hC dX3_goesBy_120 rfl ?_
    refine V_bipush (v := 9) hC dX3_goesBy_121 rfl ?_
    refine V_icmp_ge (tgt := 144) hC dX3_goesBy_123 (by decide) ?_ ?_
    · exact V_return dX3_goesBy_144 rfl rfl
    · refine V_aload_n hC dX3_goesBy_126 rfl ?_
      refine g_X3_70 hC dX3_goesBy_127 (fun b => ?_)
      refine V_iload_n hC dX3_goesBy_130 rfl ?_
      refine V_aload_n hC dX3_goesBy_131 rfl ?_
      refine g_X3_73 hC dX3_goesBy_132 (fun b_1 => ?_)
      refine V_iload_n hC dX3_goesBy_135 rfl ?_
      refine V_iald hC dX3_goesBy_136 ?_
      refine V_iast hC dX3_goesBy_137 (fun σ_4 => ?_)
      refine V_iincL (v := v3 + 1) (ls' := fun v3_1 => [some (.ref a0), none, none, some (.int v3_1), none, none]) hC dX3_goesBy_138 rfl (by decide) rfl rfl (fun _ => rfl) (fun v3_1 => ?_)
      refine V_goto (tgt := 120) hC dX3_goesBy_141 (by decide) ?_
      exact ih σ_4 v3_1
theorem w_X3_goesBy_49 {l : Launch} {d n0 s0 : Nat} (hd : 1 ≤ d) (a0 : Nat) (x1 : Int32) (x2 : Int32) (v3_2 : Int32) (k_4 : vMem → Option (vMem)) (hk_4 : ∀ (σ_6 : vMem), V (P_X3_goesBy l d n0 s0) (vEmb eV) σ_6 112 [some (.ref a0), some (.int x1), some (.int x2), some (.int v3_2), none, none] [] (k_4 σ_6)) : ∀ (n_2 : Nat) (σ_7 : vMem) (v4 : Int32), V (P_X3_goesBy l d n0 s0) (vEmb eV) σ_7 49 [some (.ref a0), some (.int x1), some (.int x2), some (.int v3_2), some (.int v4), none] [] (f_X3_goesBy_49 a0 x1 x2 v3_2 k_4 n_2 σ_7 v4) := by
  have hC : vPx (P_X3_goesBy l d n0 s0) cX3_goesBy 6 "NobodyBeenAftModel" none d := vMP_cx
  intro n_2
  induction n_2 with
  | zero =>
    intro σ_7 v4
    exact V_none
  | succ n_2 ih =>
    intro σ_7 v4
    refine V_eq (f_X3_goesBy_49.eq_2 ..) ?_
    refine V_iload hC dX3_goesBy_49 rfl ?_
    refine V_bipush (v := 9) hC dX3_goesBy_51 rfl ?_
    refine V_icmp_ge (tgt := 112) hC dX3_goesBy_53 (by decide) ?_ ?_
    · refine V_clr [4] (ls' := [some (.ref a0), some (.int x1), some (.int x2), some (.int v3_2), none, none]) rfl ?_
      exact hk_4 σ_7
    · refine V_iload hC dX3_goesBy_56 rfl ?_
      refine V_iload_n hC dX3_goesBy_58 rfl ?_
      refine V_iadd hC dX3_goesBy_59 ?_
      refine V_callS_PI (As := [.int (v4 + v3_2)]) (rest := []) (d' := 0) hC dX3_goesBy_60 1 (lw_S q1690 q1691 q87 q1692) (by decide +kernel) rfl rfl (Nat.le_of_ble_eq_true rfl) (Nat.le_trans (by decide) hd) (by decide) vMP_l (fun _ h => c_X3_put (Nat.le_refl _) h) (fun r => ?_)
      refine V_istore (ls' := [some (.ref a0), some (.int x1), some (.int x2), some (.int v3_2), some (.int v4), some (.int r)]) hC dX3_goesBy_63 (by decide) rfl rfl ?_
      refine V_aload_n hC dX3_goesBy_65 rfl ?_
      refine g_X3_73 hC dX3_goesBy_66 (fun b_2 => ?_)
      refine V_iload hC dX3_goesBy_69 rfl ?_
      refine V_aload_n hC dX3_goesBy_71 rfl ?_
      refine g_X3_73 hC dX3_goesBy_72 (fun b_3 => ?_)
      refine V_iload hC dX3_goesBy_75 rfl ?_
      refine V_iald hC dX3_goesBy_77 ?_
      refine V_aload_n hC dX3_goesBy_78 rfl ?_
      refine g_X3_70 hC dX3_goesBy_79 (fun b_4 => ?_)
      refine V_iload hC dX3_goesBy_82 rfl ?_
      refine V_iald hC dX3_goesBy_84 ?_
      refine V_iload_n hC dX3_goesBy_85 rfl ?_
      refine V_let (B := fun k_5 => ∀ (y_2 : Int32), V (P_X3_goesBy l d n0 s0) (vEmb eV) σ_7 98 [some (.ref a0), some (.int x1), some (.int x2), some (.int v3_2), some (.int v4), none] [.int y_2, .int (gi σ_7 b_4 (Int32.toNatClampNeg v4)), .int (gi σ_7 b_3 (Int32.toNatClampNeg r)), .int r, .ref b_2] (k_5 y_2)) ?_ ?_
      · intro y_2
        refine V_callS_PI (As := [.int y_2]) (rest := [.int (gi σ_7 b_4 (Int32.toNatClampNeg v4)), .int (gi σ_7 b_3 (Int32.toNatClampNeg r)), .int r, .ref b_2]) (d' := 0) hC dX3_goesBy_98 1 (lw_S q1478 q1479 q87 q1480) (by decide +kernel) rfl rfl (Nat.le_of_ble_eq_true rfl) (Nat.le_trans (by decide) hd) (by decide) vMP_l (fun _ h => c_X3_flag (Nat.le_refl _) h) (fun r_1 => ?_)
        refine V_iadd hC dX3_goesBy_101 ?_
        refine V_mmin hC dX3_goesBy_102 q1459 q327 q90 q328 (Nat.le_of_ble_eq_true rfl) ?_
        refine V_iast hC dX3_goesBy_105 (fun σ_8 => ?_)
        refine V_iincL (v := v4 + 1) (ls' := fun v4_1 => [some (.ref a0), some (.int x1), some (.int x2), some (.int v3_2), some (.int v4_1), none]) hC dX3_goesBy_106 rfl (by decide) rfl rfl (fun _ => rfl) (fun v4_1 => ?_)
        refine V_goto (tgt := 49) hC dX3_goesBy_109 (by decide) ?_
        exact ih σ_8 v4_1
      · intro k_5 hk_5
        refine V_let (B := fun k_6 => V (P_X3_goesBy l d n0 s0) (vEmb eV) σ_7 97 [some (.ref a0), some (.int x1), some (.int x2), some (.int v3_2), some (.int v4), none] [.int (gi σ_7 b_4 (Int32.toNatClampNeg v4)), .int (gi σ_7 b_3 (Int32.toNatClampNeg r)), .int r, .ref b_2] (k_6)) ?_ ?_
        · skip
          refine V_iconst (v := 0) hC dX3_goesBy_97 rfl ?_
          exact hk_5 0
        · intro k_6 hk_6
          refine V_if_eq (tgt := 97) hC dX3_goesBy_86 (by decide) ?_ ?_
          · refine V_clr [5] (ls' := [some (.ref a0), some (.int x1), some (.int x2), some (.int v3_2), some (.int v4), none]) rfl ?_
            exact hk_6
          · refine V_iload_n hC dX3_goesBy_89 rfl ?_
            refine V_if_eq (tgt := 97) hC dX3_goesBy_90 (by decide) ?_ ?_
            · refine V_clr [5] (ls' := [some (.ref a0), some (.int x1), some (.int x2), some (.int v3_2), some (.int v4), none]) rfl ?_
              exact hk_6
            · refine V_iconst (v := 1) hC dX3_goesBy_93 rfl ?_
              refine V_goto (tgt := 98) hC dX3_goesBy_94 (by decide) ?_
              refine V_clr [5] (ls' := [some (.ref a0), some (.int x1), some (.int x2), some (.int v3_2), some (.int v4), none]) rfl ?_
              exact hk_5 1
theorem w_X3_goesBy_33 {l : Launch} {d n0 s0 : Nat} (hd : 1 ≤ d) (a0 : Nat) (x1 : Int32) (x2 : Int32) (k_2 : vMem → Option (vMem)) (hk_2 : ∀ (σ_2 : vMem), V (P_X3_goesBy l d n0 s0) (vEmb eV) σ_2 118 [some (.ref a0), none, none, none, none, none] [] (k_2 σ_2)) : ∀ (n_1 : Nat) (σ_5 : vMem) (v3_2 : Int32), V (P_X3_goesBy l d n0 s0) (vEmb eV) σ_5 33 [some (.ref a0), some (.int x1), some (.int x2), some (.int v3_2), none, none] [] (f_X3_goesBy_33 a0 x1 x2 k_2 n_1 σ_5 v3_2) := by
  have hC : vPx (P_X3_goesBy l d n0 s0) cX3_goesBy 6 "NobodyBeenAftModel" none d := vMP_cx
  intro n_1
  induction n_1 with
  | zero =>
    intro σ_5 v3_2
    exact V_none
  | succ n_1 ih =>
    intro σ_5 v3_2
    refine V_eq (f_X3_goesBy_33.eq_2 ..) ?_
    refine V_iload_n hC dX3_goesBy_33 rfl ?_
    refine V_iload_n hC dX3_goesBy_34 rfl ?_
    refine V_let (B := fun k_3 => ∀ (y_1 : Int32), V (P_X3_goesBy l d n0 s0) (vEmb eV) σ_5 43 [some (.ref a0), some (.int x1), some (.int x2), some (.int v3_2), none, none] [.int y_1, .int v3_2] (k_3 y_1)) ?_ ?_
    · intro y_1
      refine V_icmp_gt (tgt := 118) hC dX3_goesBy_43 (by decide) ?_ ?_
      · refine V_clr [1, 2, 3] (ls' := [some (.ref a0), none, none, none, none, none]) rfl ?_
        exact hk_2 σ_5
      · refine V_iconst (v := 0) hC dX3_goesBy_46 rfl ?_
        refine V_istore (ls' := [some (.ref a0), some (.int x1), some (.int x2), some (.int v3_2), some (.int 0), none]) hC dX3_goesBy_47 (by decide) rfl rfl ?_
        refine V_let (B := fun k_4 => ∀ (σ_6 : vMem), V (P_X3_goesBy l d n0 s0) (vEmb eV) σ_6 112 [some (.ref a0), some (.int x1), some (.int x2), some (.int v3_2), none, none] [] (k_4 σ_6)) ?_ ?_
        · intro σ_6
          refine V_iincL (v := v3_2 + 1) (ls' := fun v3_3 => [some (.ref a0), some (.int x1), some (.int x2), some (.int v3_3), none, none]) hC dX3_goesBy_112 rfl (by decide) rfl rfl (fun _ => rfl) (fun v3_3 => ?_)
          refine V_goto (tgt := 33) hC dX3_goesBy_115 (by decide) ?_
          exact ih σ_6 v3_3
        · intro k_4 hk_4
          exact (w_X3_goesBy_49 hd a0 x1 x2 v3_2 k_4 hk_4) FU σ_5 0
    · intro k_3 hk_3
      refine V_if_eq (tgt := 42) hC dX3_goesBy_35 (by decide) ?_ ?_
      · refine V_iload_n hC dX3_goesBy_42 rfl ?_
        exact hk_3 x1
      · refine V_iconst (v := 1) hC dX3_goesBy_38 rfl ?_
        refine V_goto (tgt := 43) hC dX3_goesBy_39 (by decide) ?_
        exact hk_3 1
theorem w_X3_goesBy_2 {l : Launch} {d n0 s0 : Nat} (hd : 1 ≤ d) (a0 : Nat) (x1 : Int32) (x2 : Int32) (k : vMem → Option (vMem)) (hk : ∀ (σ_1 : vMem), V (P_X3_goesBy l d n0 s0) (vEmb eV) σ_1 23 [some (.ref a0), some (.int x1), some (.int x2), none, none, none] [] (k σ_1)) : ∀ (n_3 : Nat) (σ_9 : vMem) (v3_4 : Int32), V (P_X3_goesBy l d n0 s0) (vEmb eV) σ_9 2 [some (.ref a0), some (.int x1), some (.int x2), some (.int v3_4), none, none] [] (f_X3_goesBy_2 a0 x1 x2 k n_3 σ_9 v3_4) := by
  have hC : vPx (P_X3_goesBy l d n0 s0) cX3_goesBy 6 "NobodyBeenAftModel" none d := vMP_cx
  intro n_3
  induction n_3 with
  | zero =>
    intro σ_9 v3_4
    exact V_none
  | succ n_3 ih =>
    intro σ_9 v3_4
    refine V_eq (f_X3_goesBy_2.eq_2 ..) ?_
    refine V_iload_n hC dX3_goesBy_2 rfl ?_
    refine V_bipush (v := 9) hC dX3_goesBy_3 rfl ?_
    refine V_icmp_ge (tgt := 23) hC dX3_goesBy_5 (by decide) ?_ ?_
    · refine V_clr [3] (ls' := [some (.ref a0), some (.int x1), some (.int x2), none, none, none]) rfl ?_
      exact hk σ_9
    · refine V_aload_n hC dX3_goesBy_8 rfl ?_
      refine g_X3_73 hC dX3_goesBy_9 (fun b_5 => ?_)
      refine V_iload_n hC dX3_goesBy_12 rfl ?_
      refine V_sipush (v := 1000) hC dX3_goesBy_13 rfl ?_
      refine V_iast hC dX3_goesBy_16 (fun σ_10 => ?_)
      refine V_iincL (v := v3_4 + 1) (ls' := fun v3_5 => [some (.ref a0), some (.int x1), some (.int x2), some (.int v3_5), none, none]) hC dX3_goesBy_17 rfl (by decide) rfl rfl (fun _ => rfl) (fun v3_5 => ?_)
      refine V_goto (tgt := 2) hC dX3_goesBy_20 (by decide) ?_
      exact ih σ_10 v3_5
theorem w_X3_goesBy {l : Launch} {d n0 s0 : Nat} (hd : 1 ≤ d) (σ : vMem) (a0 : Nat) (x1 : Int32) (x2 : Int32) : V (P_X3_goesBy l d n0 s0) (vEmb eV) σ 0 [some (.ref a0), some (.int x1), some (.int x2), none, none, none] [] (f_X3_goesBy σ a0 x1 x2) := by
  have hC : vPx (P_X3_goesBy l d n0 s0) cX3_goesBy 6 "NobodyBeenAftModel" none d := vMP_cx
  refine V_eq (f_X3_goesBy.eq_1 ..) ?_
  refine V_iconst (v := 0) hC dX3_goesBy_0 rfl ?_
  refine V_istore_n (ls' := [some (.ref a0), some (.int x1), some (.int x2), some (.int 0), none, none]) hC dX3_goesBy_1 (by decide) rfl rfl ?_
  refine V_let (B := fun k => ∀ (σ_1 : vMem), V (P_X3_goesBy l d n0 s0) (vEmb eV) σ_1 23 [some (.ref a0), some (.int x1), some (.int x2), none, none, none] [] (k σ_1)) ?_ ?_
  · intro σ_1
    refine V_iload_n hC dX3_goesBy_23 rfl ?_
    refine V_let (B := fun k_1 => ∀ (y : Int32), V (P_X3_goesBy l d n0 s0) (vEmb eV) σ_1 32 [some (.ref a0), some (.int x1), some (.int x2), none, none, none] [.int y] (k_1 y)) ?_ ?_
    · intro y
      refine V_istore_n (ls' := [some (.ref a0), some (.int x1), some (.int x2), some (.int y), none, none]) hC dX3_goesBy_32 (by decide) rfl rfl ?_
      refine V_let (B := fun k_2 => ∀ (σ_2 : vMem), V (P_X3_goesBy l d n0 s0) (vEmb eV) σ_2 118 [some (.ref a0), none, none, none, none, none] [] (k_2 σ_2)) ?_ ?_
      · intro σ_2
        refine V_iconst (v := 0) hC dX3_goesBy_118 rfl ?_
        refine V_istore_n (ls' := [some (.ref a0), none, none, some (.int 0), none, none]) hC dX3_goesBy_119 (by decide) rfl rfl ?_
        exact (w_X3_goesBy_120 hd a0) FU σ_2 0
      · intro k_2 hk_2
        exact (w_X3_goesBy_33 hd a0 x1 x2 k_2 hk_2) FU σ_1 y
    · intro k_1 hk_1
      refine V_if_eq (tgt := 31) hC dX3_goesBy_24 (by decide) ?_ ?_
      · refine V_iload_n hC dX3_goesBy_31 rfl ?_
        exact hk_1 x1
      · refine V_iconst (v := (-1)) hC dX3_goesBy_27 rfl ?_
        refine V_goto (tgt := 32) hC dX3_goesBy_28 (by decide) ?_
        exact hk_1 (-1)
  · intro k hk
    exact (w_X3_goesBy_2 hd a0 x1 x2 k hk) FU σ 0
theorem c_X3_goesBy {l : Launch} {d : Nat} (hd : 1 ≤ d) {σ : vMem} {a0 : Nat} {x1 : Int32} {x2 : Int32} {r : vMem} (h : f_X3_goesBy σ a0 x1 x2 = some r) : vOk l yX3_goesBy cX3_goesBy 6 none d [.ref a0, .int x1, .int x2] σ (.inl ((eV).1 r, (eV).2 r)) := V_method (em := eV) [some (.ref a0), some (.int x1), some (.int x2), none, none, none] (by decide +kernel) rfl (Nat.le_of_ble_eq_true rfl) (w_X3_goesBy hd σ a0 x1 x2) h
/-! NobodyBeenAftModel.laysLeast(I)V -/
def f_X3_laysLeast_156 (a0 : Nat) (x1 : Int32) (v2 : Int32) (k_3 : vMem → Option (vMem)) : Nat → vMem → Int32 → Option (vMem)
  | 0, _, _ => none
  | n_1 + 1, σ_6, v3 => if 9 ≤ v3 then (k_3 σ_6) else cko σ_6 a0 [3] (dr (gr σ_6 a0 37) (fun b => cko σ_6 a0 [3] (dr (gr σ_6 a0 14) (fun b_1 => cka σ_6 b_1 105 0 (cko σ_6 a0 [3] (bp (f_X3_hitsAt σ_6 a0 ((gi σ_6 b_1 (Int32.toNatClampNeg 0)) + v2) v3) (fun r => vl (fun (y : Int32) => cka σ_6 b 105 v3 (vl (si σ_6 b (Int32.toNatClampNeg v3) y) (fun σ_7 => vl (v3 + 1) (fun v3_1 => f_X3_laysLeast_156 a0 x1 v2 k_3 n_1 σ_7 v3_1)))) (fun k_4 => if r ≤ 0 then (cko σ_6 a0 [3] (dr (gr σ_6 a0 37) (fun b_2 => cka σ_6 b_2 105 v3 (k_4 (gi σ_6 b_2 (Int32.toNatClampNeg v3)))))) else k_4 1000))))))))
def f_X3_laysLeast_105 (a0 : Nat) (x1 : Int32) (v2 : Int32) (k_2 : vMem → Option (vMem)) : Nat → vMem → Int32 → Option (vMem)
  | 0, _, _ => none
  | n_2 + 1, σ_8, v3_2 => if v2 ≤ v3_2 then (k_2 σ_8) else cko σ_8 a0 [3] (bd (f_X3_comesAt σ_8 a0 v3_2 v2) (fun r_1 σ_9 => vl (fun (σ_10 : vMem) => vl (v3_2 + 1) (fun v3_3 => f_X3_laysLeast_105 a0 x1 v2 k_2 n_2 σ_10 v3_3)) (fun k_5 => if r_1 = 0 then (k_5 σ_9) else cko σ_9 a0 [3] (dr (gr σ_9 a0 36) (fun b_3 => cka σ_9 b_3 105 v3_2 (cko σ_9 a0 [3] (bp (f_X3_turned σ_9 a0 (gi σ_9 b_3 (Int32.toNatClampNeg v3_2))) (fun r_2 => cko σ_9 a0 [3] (dr (gr σ_9 a0 36) (fun b_4 => cka σ_9 b_4 105 v3_2 (vl (fun (y_1 : Int32) => cko σ_9 a0 [3] (bv (f_X3_goesBy σ_9 a0 r_2 y_1) (fun σ_11 => k_5 σ_11))) (fun k_6 => if ¬ (gi σ_9 b_4 (Int32.toNatClampNeg v3_2)) = 2 then (k_6 0) else k_6 1))))))))))))
def f_X3_laysLeast_46 (a0 : Nat) (x1 : Int32) (v2 : Int32) (k_1 : vMem → Option (vMem)) : Nat → vMem → Int32 → Option (vMem)
  | 0, _, _ => none
  | n_3 + 1, σ_12, v3_4 => cko σ_12 a0 [3] (dr (gr σ_12 a0 14) (fun b_5 => cka σ_12 b_5 105 3 (if (gi σ_12 b_5 (Int32.toNatClampNeg 3)) ≤ v3_4 then (k_1 σ_12) else vl (5 + (3 * v3_4)) (fun v4 => cko σ_12 a0 [3] (dr (gr σ_12 a0 14) (fun b_6 => cka σ_12 b_6 105 (v4 + 0) (cko σ_12 a0 [3] (dr (gr σ_12 a0 14) (fun b_7 => cka σ_12 b_7 105 0 (vl (fun (σ_13 : vMem) => vl (v3_4 + 1) (fun v3_5 => f_X3_laysLeast_46 a0 x1 v2 k_1 n_3 σ_13 v3_5)) (fun k_7 => if ¬ (gi σ_12 b_6 (Int32.toNatClampNeg (v4 + 0))) = ((gi σ_12 b_7 (Int32.toNatClampNeg 0)) + v2) then (k_7 σ_12) else cko σ_12 a0 [3] (dr (gr σ_12 a0 14) (fun b_8 => cka σ_12 b_8 105 (v4 + 1) (cko σ_12 a0 [3] (bv (f_X3_goesBy σ_12 a0 (gi σ_12 b_8 (Int32.toNatClampNeg (v4 + 1))) 0) (fun σ_14 => k_7 σ_14))))))))))))))))
def f_X3_laysLeast_39 (a0 : Nat) (x1 : Int32) : Nat → vMem → Int32 → Option (vMem)
  | 0, _, _ => none
  | n + 1, σ_2, v2 => if x1 < v2 then (some σ_2) else vl (fun (σ_3 : vMem) => vl (fun (σ_4 : vMem) => vl (fun (σ_5 : vMem) => vl (v2 + 1) (fun v2_1 => f_X3_laysLeast_39 a0 x1 n σ_5 v2_1)) (fun k_3 => f_X3_laysLeast_156 a0 x1 v2 k_3 FU σ_4 0)) (fun k_2 => f_X3_laysLeast_105 a0 x1 v2 k_2 FU σ_3 0)) (fun k_1 => f_X3_laysLeast_46 a0 x1 v2 k_1 FU σ_2 0)
def f_X3_laysLeast_2 (a0 : Nat) (x1 : Int32) (k : vMem → Option (vMem)) : Nat → vMem → Int32 → Option (vMem)
  | 0, _, _ => none
  | n_4 + 1, σ_15, v2_2 => if 9 ≤ v2_2 then (k σ_15) else cko σ_15 a0 [3] (dr (gr σ_15 a0 37) (fun b_9 => cko σ_15 a0 [3] (dr (gr σ_15 a0 14) (fun b_10 => cka σ_15 b_10 105 1 (vl (fun (y_2 : Int32) => cka σ_15 b_9 105 v2_2 (vl (si σ_15 b_9 (Int32.toNatClampNeg v2_2) y_2) (fun σ_16 => vl (v2_2 + 1) (fun v2_3 => f_X3_laysLeast_2 a0 x1 k n_4 σ_16 v2_3)))) (fun k_8 => if ¬ v2_2 = (gi σ_15 b_10 (Int32.toNatClampNeg 1)) then (k_8 1000) else k_8 0))))))
def f_X3_laysLeast (σ : vMem) (a0 : Nat) (x1 : Int32) : Option (vMem) := vl (fun (σ_1 : vMem) => f_X3_laysLeast_39 a0 x1 FU σ_1 1) (fun k => f_X3_laysLeast_2 a0 x1 k FU σ 0)
abbrev P_X3_laysLeast (l : Launch) (d n0 s0 : Nat) : vX → Prop := vMP l yX3_laysLeast cX3_laysLeast 5 none d n0 s0
theorem w_X3_laysLeast_156 {l : Launch} {d n0 s0 : Nat} (hd : 5 ≤ d) (a0 : Nat) (x1 : Int32) (v2 : Int32) (k_3 : vMem → Option (vMem)) (hk_3 : ∀ (σ_5 : vMem), V (P_X3_laysLeast l d n0 s0) (vEmb eV) σ_5 202 [some (.ref a0), some (.int x1), some (.int v2), none, none] [] (k_3 σ_5)) : ∀ (n_1 : Nat) (σ_6 : vMem) (v3 : Int32), V (P_X3_laysLeast l d n0 s0) (vEmb eV) σ_6 156 [some (.ref a0), some (.int x1), some (.int v2), some (.int v3), none] [] (f_X3_laysLeast_156 a0 x1 v2 k_3 n_1 σ_6 v3) := by
  have hC : vPx (P_X3_laysLeast l d n0 s0) cX3_laysLeast 5 "NobodyBeenAftModel" none d := vMP_cx
  intro n_1
  induction n_1 with
  | zero =>
    intro σ_6 v3
    exact V_none
  | succ n_1 ih =>
    intro σ_6 v3
    refine V_eq (f_X3_laysLeast_156.eq_2 ..) ?_
    refine V_iload_n hC dX3_laysLeast_156 rfl ?_
    refine V_bipush (v := 9) hC dX3_laysLeast_157 rfl ?_
    refine V_icmp_ge (tgt := 202) hC dX3_laysLeast_159 (by decide) ?_ ?_
    · refine V_clr [3] (ls' := [some (.ref a0), some (.int x1), some (.int v2), none, none]) rfl ?_
      exact hk_3 σ_6
    · refine V_aload_n hC dX3_laysLeast_162 rfl ?_
      refine g_X3_70 hC dX3_laysLeast_163 (fun b => ?_)
      refine V_iload_n hC dX3_laysLeast_166 rfl ?_
      refine V_aload_n hC dX3_laysLeast_167 rfl ?_
      refine V_aload_n hC dX3_laysLeast_168 rfl ?_
      refine g_X3_34 hC dX3_laysLeast_169 (fun b_1 => ?_)
      refine V_iconst (v := 0) hC dX3_laysLeast_172 rfl ?_
      refine V_iald hC dX3_laysLeast_173 ?_
      refine V_iload_n hC dX3_laysLeast_174 rfl ?_
      refine V_iadd hC dX3_laysLeast_175 ?_
      refine V_iload_n hC dX3_laysLeast_176 rfl ?_
      refine V_cko (fun hm => V_callV_PI (c := 3) (As := [.int ((gi σ_6 b_1 (Int32.toNatClampNeg 0)) + v2), .int v3]) (rest := [.int v3, .ref b]) (d' := 1) hC dX3_laysLeast_177 2 (lw_V q1693 q1695 qs58 q87 q1696) (by decide +kernel) (List.mem_singleton.mp hm) (by decide) (by decide) rfl rfl rfl (Nat.le_of_ble_eq_true rfl) (Nat.le_trans (by decide) hd) (by decide) vMP_l (fun _ h => c_X3_hitsAt (Nat.le_refl _) h) (fun r => ?_))
      refine V_let (B := fun k_4 => ∀ (y : Int32), V (P_X3_laysLeast l d n0 s0) (vEmb eV) σ_6 195 [some (.ref a0), some (.int x1), some (.int v2), some (.int v3), none] [.int y, .int v3, .ref b] (k_4 y)) ?_ ?_
      · intro y
        refine V_iast hC dX3_laysLeast_195 (fun σ_7 => ?_)
        refine V_iincL (v := v3 + 1) (ls' := fun v3_1 => [some (.ref a0), some (.int x1), some (.int v2), some (.int v3_1), none]) hC dX3_laysLeast_196 rfl (by decide) rfl rfl (fun _ => rfl) (fun v3_1 => ?_)
        refine V_goto (tgt := 156) hC dX3_laysLeast_199 (by decide) ?_
        exact ih σ_7 v3_1
      · intro k_4 hk_4
        refine V_if_le (tgt := 189) hC dX3_laysLeast_180 (by decide) ?_ ?_
        · refine V_aload_n hC dX3_laysLeast_189 rfl ?_
          refine g_X3_70 hC dX3_laysLeast_190 (fun b_2 => ?_)
          refine V_iload_n hC dX3_laysLeast_193 rfl ?_
          refine V_iald hC dX3_laysLeast_194 ?_
          exact hk_4 (gi σ_6 b_2 (Int32.toNatClampNeg v3))
        · refine V_sipush (v := 1000) hC dX3_laysLeast_183 rfl ?_
          refine V_goto (tgt := 195) hC dX3_laysLeast_186 (by decide) ?_
          exact hk_4 1000
theorem w_X3_laysLeast_105 {l : Launch} {d n0 s0 : Nat} (hd : 5 ≤ d) (a0 : Nat) (x1 : Int32) (v2 : Int32) (k_2 : vMem → Option (vMem)) (hk_2 : ∀ (σ_4 : vMem), V (P_X3_laysLeast l d n0 s0) (vEmb eV) σ_4 154 [some (.ref a0), some (.int x1), some (.int v2), none, none] [] (k_2 σ_4)) : ∀ (n_2 : Nat) (σ_8 : vMem) (v3_2 : Int32), V (P_X3_laysLeast l d n0 s0) (vEmb eV) σ_8 105 [some (.ref a0), some (.int x1), some (.int v2), some (.int v3_2), none] [] (f_X3_laysLeast_105 a0 x1 v2 k_2 n_2 σ_8 v3_2) := by
  have hC : vPx (P_X3_laysLeast l d n0 s0) cX3_laysLeast 5 "NobodyBeenAftModel" none d := vMP_cx
  intro n_2
  induction n_2 with
  | zero =>
    intro σ_8 v3_2
    exact V_none
  | succ n_2 ih =>
    intro σ_8 v3_2
    refine V_eq (f_X3_laysLeast_105.eq_2 ..) ?_
    refine V_iload_n hC dX3_laysLeast_105 rfl ?_
    refine V_iload_n hC dX3_laysLeast_106 rfl ?_
    refine V_icmp_ge (tgt := 154) hC dX3_laysLeast_107 (by decide) ?_ ?_
    · refine V_clr [3] (ls' := [some (.ref a0), some (.int x1), some (.int v2), none, none]) rfl ?_
      exact hk_2 σ_8
    · refine V_aload_n hC dX3_laysLeast_110 rfl ?_
      refine V_iload_n hC dX3_laysLeast_111 rfl ?_
      refine V_iload_n hC dX3_laysLeast_112 rfl ?_
      refine V_cko (fun hm => V_callV_I (c := 3) (As := [.int v3_2, .int v2]) (rest := []) (d' := 4) hC dX3_laysLeast_113 2 (lw_V q1740 q1742 qs64 q87 q1743) (by decide +kernel) (List.mem_singleton.mp hm) (by decide) (by decide) rfl rfl rfl (Nat.le_of_ble_eq_true rfl) (Nat.le_trans (by decide) hd) (by decide) vMP_l (fun _ h => c_X3_comesAt (Nat.le_refl _) h) (fun r_1 σ_9 => ?_))
      refine V_let (B := fun k_5 => ∀ (σ_10 : vMem), V (P_X3_laysLeast l d n0 s0) (vEmb eV) σ_10 148 [some (.ref a0), some (.int x1), some (.int v2), some (.int v3_2), none] [] (k_5 σ_10)) ?_ ?_
      · intro σ_10
        refine V_iincL (v := v3_2 + 1) (ls' := fun v3_3 => [some (.ref a0), some (.int x1), some (.int v2), some (.int v3_3), none]) hC dX3_laysLeast_148 rfl (by decide) rfl rfl (fun _ => rfl) (fun v3_3 => ?_)
        refine V_goto (tgt := 105) hC dX3_laysLeast_151 (by decide) ?_
        exact ih σ_10 v3_3
      · intro k_5 hk_5
        refine V_if_eq (tgt := 148) hC dX3_laysLeast_116 (by decide) ?_ ?_
        · exact hk_5 σ_9
        · refine V_aload_n hC dX3_laysLeast_119 rfl ?_
          refine V_aload_n hC dX3_laysLeast_120 rfl ?_
          refine V_aload_n hC dX3_laysLeast_121 rfl ?_
          refine g_X3_67 hC dX3_laysLeast_122 (fun b_3 => ?_)
          refine V_iload_n hC dX3_laysLeast_125 rfl ?_
          refine V_iald hC dX3_laysLeast_126 ?_
          refine V_cko (fun hm => V_callV_PI (c := 3) (As := [.int (gi σ_9 b_3 (Int32.toNatClampNeg v3_2))]) (rest := [.ref a0]) (d' := 0) hC dX3_laysLeast_127 1 (lw_V q1645 q1647 qs51 q87 q1648) (by decide +kernel) (List.mem_singleton.mp hm) (by decide) (by decide) rfl rfl rfl (Nat.le_of_ble_eq_true rfl) (Nat.le_trans (by decide) hd) (by decide) vMP_l (fun _ h => c_X3_turned (Nat.le_refl _) h) (fun r_2 => ?_))
          refine V_aload_n hC dX3_laysLeast_130 rfl ?_
          refine g_X3_67 hC dX3_laysLeast_131 (fun b_4 => ?_)
          refine V_iload_n hC dX3_laysLeast_134 rfl ?_
          refine V_iald hC dX3_laysLeast_135 ?_
          refine V_iconst (v := 2) hC dX3_laysLeast_136 rfl ?_
          refine V_let (B := fun k_6 => ∀ (y_1 : Int32), V (P_X3_laysLeast l d n0 s0) (vEmb eV) σ_9 145 [some (.ref a0), some (.int x1), some (.int v2), some (.int v3_2), none] [.int y_1, .int r_2, .ref a0] (k_6 y_1)) ?_ ?_
          · intro y_1
            refine V_cko (fun hm => V_callV_V (c := 3) (As := [.int r_2, .int y_1]) (rest := []) (d' := 1) hC dX3_laysLeast_145 2 (lw_V q1765 q1767 qs69 q87 q1768) (by decide +kernel) (List.mem_singleton.mp hm) (by decide) (by decide) rfl rfl rfl (Nat.le_of_ble_eq_true rfl) (Nat.le_trans (by decide) hd) (by decide) vMP_l (fun _ h => c_X3_goesBy (Nat.le_refl _) h) (fun σ_11 => ?_))
            exact hk_5 σ_11
          · intro k_6 hk_6
            refine V_icmp_ne (tgt := 144) hC dX3_laysLeast_137 (by decide) ?_ ?_
            · refine V_iconst (v := 0) hC dX3_laysLeast_144 rfl ?_
              exact hk_6 0
            · refine V_iconst (v := 1) hC dX3_laysLeast_140 rfl ?_
              refine V_goto (tgt := 145) hC dX3_laysLeast_141 (by decide) ?_
              exact hk_6 1
theorem w_X3_laysLeast_46 {l : Launch} {d n0 s0 : Nat} (hd : 5 ≤ d) (a0 : Nat) (x1 : Int32) (v2 : Int32) (k_1 : vMem → Option (vMem)) (hk_1 : ∀ (σ_3 : vMem), V (P_X3_laysLeast l d n0 s0) (vEmb eV) σ_3 103 [some (.ref a0), some (.int x1), some (.int v2), none, none] [] (k_1 σ_3)) : ∀ (n_3 : Nat) (σ_12 : vMem) (v3_4 : Int32), V (P_X3_laysLeast l d n0 s0) (vEmb eV) σ_12 46 [some (.ref a0), some (.int x1), some (.int v2), some (.int v3_4), none] [] (f_X3_laysLeast_46 a0 x1 v2 k_1 n_3 σ_12 v3_4) := by
  have hC : vPx (P_X3_laysLeast l d n0 s0) cX3_laysLeast 5 "NobodyBeenAftModel" none d := vMP_cx
  intro n_3
  induction n_3 with
  | zero =>
    intro σ_12 v3_4
    exact V_none
  | succ n_3 ih =>
    intro σ_12 v3_4
    refine V_eq (f_X3_laysLeast_46.eq_2 ..) ?_
    refine V_iload_n hC dX3_laysLeast_46 rfl ?_
    refine V_aload_n hC dX3_laysLeast_47 rfl ?_
    refine g_X3_34 hC dX3_laysLeast_48 (fun b_5 => ?_)
    refine V_iconst (v := 3) hC dX3_laysLeast_51 rfl ?_
    refine V_iald hC dX3_laysLeast_52 ?_
    refine V_icmp_ge (tgt := 103) hC dX3_laysLeast_53 (by decide) ?_ ?_
    · refine V_clr [3] (ls' := [some (.ref a0), some (.int x1), some (.int v2), none, none]) rfl ?_
      exact hk_1 σ_12
    · refine V_iconst (v := 5) hC dX3_laysLeast_56 rfl ?_
      refine V_iconst (v := 3) hC dX3_laysLeast_57 rfl ?_
      refine V_iload_n hC dX3_laysLeast_58 rfl ?_
      refine V_imul hC dX3_laysLeast_59 ?_
      refine V_iadd hC dX3_laysLeast_60 ?_
      refine V_istoreL (ls' := fun v4 => [some (.ref a0), some (.int x1), some (.int v2), some (.int v3_4), some (.int v4)]) hC dX3_laysLeast_61 (by decide) rfl (fun _ => rfl) (fun v4 => ?_)
      refine V_aload_n hC dX3_laysLeast_63 rfl ?_
      refine g_X3_34 hC dX3_laysLeast_64 (fun b_6 => ?_)
      refine V_iload hC dX3_laysLeast_67 rfl ?_
      refine V_iconst (v := 0) hC dX3_laysLeast_69 rfl ?_
      refine V_iadd hC dX3_laysLeast_70 ?_
      refine V_iald hC dX3_laysLeast_71 ?_
      refine V_aload_n hC dX3_laysLeast_72 rfl ?_
      refine g_X3_34 hC dX3_laysLeast_73 (fun b_7 => ?_)
      refine V_iconst (v := 0) hC dX3_laysLeast_76 rfl ?_
      refine V_iald hC dX3_laysLeast_77 ?_
      refine V_iload_n hC dX3_laysLeast_78 rfl ?_
      refine V_iadd hC dX3_laysLeast_79 ?_
      refine V_let (B := fun k_7 => ∀ (σ_13 : vMem), V (P_X3_laysLeast l d n0 s0) (vEmb eV) σ_13 97 [some (.ref a0), some (.int x1), some (.int v2), some (.int v3_4), none] [] (k_7 σ_13)) ?_ ?_
      · intro σ_13
        refine V_iincL (v := v3_4 + 1) (ls' := fun v3_5 => [some (.ref a0), some (.int x1), some (.int v2), some (.int v3_5), none]) hC dX3_laysLeast_97 rfl (by decide) rfl rfl (fun _ => rfl) (fun v3_5 => ?_)
        refine V_goto (tgt := 46) hC dX3_laysLeast_100 (by decide) ?_
        exact ih σ_13 v3_5
      · intro k_7 hk_7
        refine V_icmp_ne (tgt := 97) hC dX3_laysLeast_80 (by decide) ?_ ?_
        · refine V_clr [4] (ls' := [some (.ref a0), some (.int x1), some (.int v2), some (.int v3_4), none]) rfl ?_
          exact hk_7 σ_12
        · refine V_aload_n hC dX3_laysLeast_83 rfl ?_
          refine V_aload_n hC dX3_laysLeast_84 rfl ?_
          refine g_X3_34 hC dX3_laysLeast_85 (fun b_8 => ?_)
          refine V_iload hC dX3_laysLeast_88 rfl ?_
          refine V_iconst (v := 1) hC dX3_laysLeast_90 rfl ?_
          refine V_iadd hC dX3_laysLeast_91 ?_
          refine V_iald hC dX3_laysLeast_92 ?_
          refine V_iconst (v := 0) hC dX3_laysLeast_93 rfl ?_
          refine V_cko (fun hm => V_callV_V (c := 3) (As := [.int (gi σ_12 b_8 (Int32.toNatClampNeg (v4 + 1))), .int 0]) (rest := []) (d' := 1) hC dX3_laysLeast_94 2 (lw_V q1765 q1767 qs69 q87 q1768) (by decide +kernel) (List.mem_singleton.mp hm) (by decide) (by decide) rfl rfl rfl (Nat.le_of_ble_eq_true rfl) (Nat.le_trans (by decide) hd) (by decide) vMP_l (fun _ h => c_X3_goesBy (Nat.le_refl _) h) (fun σ_14 => ?_))
          refine V_clr [4] (ls' := [some (.ref a0), some (.int x1), some (.int v2), some (.int v3_4), none]) rfl ?_
          exact hk_7 σ_14
theorem w_X3_laysLeast_39 {l : Launch} {d n0 s0 : Nat} (hd : 5 ≤ d) (a0 : Nat) (x1 : Int32)  : ∀ (n : Nat) (σ_2 : vMem) (v2 : Int32), V (P_X3_laysLeast l d n0 s0) (vEmb eV) σ_2 39 [some (.ref a0), some (.int x1), some (.int v2), none, none] [] (f_X3_laysLeast_39 a0 x1 n σ_2 v2) := by
  have hC : vPx (P_X3_laysLeast l d n0 s0) cX3_laysLeast 5 "NobodyBeenAftModel" none d := vMP_cx
  intro n
  induction n with
  | zero =>
    intro σ_2 v2
    exact V_none
  | succ n ih =>
    intro σ_2 v2
    refine V_eq (f_X3_laysLeast_39.eq_2 ..) ?_
    refine V_iload_n hC dX3_laysLeast_39 rfl ?_
    refine V_iload_n hC dX3_laysLeast_40 rfl ?_
    refine V_icmp_gt (tgt := 208) hC dX3_laysLeast_41 (by decide) ?_ ?_
    · exact V_return dX3_laysLeast_208 rfl rfl
    · refine V_iconst (v := 0) hC dX3_laysLeast_44 rfl ?_
      refine V_istore_n (ls' := [some (.ref a0), some (.int x1), some (.int v2), some (.int 0), none]) hC dX3_laysLeast_45 (by decide) rfl rfl ?_
      refine V_let (B := fun k_1 => ∀ (σ_3 : vMem), V (P_X3_laysLeast l d n0 s0) (vEmb eV) σ_3 103 [some (.ref a0), some (.int x1), some (.int v2), none, none] [] (k_1 σ_3)) ?_ ?_
      · intro σ_3
        refine V_iconst (v := 0) hC dX3_laysLeast_103 rfl ?_
        refine V_istore_n (ls' := [some (.ref a0), some (.int x1), some (.int v2), some (.int 0), none]) hC dX3_laysLeast_104 (by decide) rfl rfl ?_
        refine V_let (B := fun k_2 => ∀ (σ_4 : vMem), V (P_X3_laysLeast l d n0 s0) (vEmb eV) σ_4 154 [some (.ref a0), some (.int x1), some (.int v2), none, none] [] (k_2 σ_4)) ?_ ?_
        · intro σ_4
          refine V_iconst (v := 0) hC dX3_laysLeast_154 rfl ?_
          refine V_istore_n (ls' := [some (.ref a0), some (.int x1), some (.int v2), some (.int 0), none]) hC dX3_laysLeast_155 (by decide) rfl rfl ?_
          refine V_let (B := fun k_3 => ∀ (σ_5 : vMem), V (P_X3_laysLeast l d n0 s0) (vEmb eV) σ_5 202 [some (.ref a0), some (.int x1), some (.int v2), none, none] [] (k_3 σ_5)) ?_ ?_
          · intro σ_5
            refine V_iincL (v := v2 + 1) (ls' := fun v2_1 => [some (.ref a0), some (.int x1), some (.int v2_1), none, none]) hC dX3_laysLeast_202 rfl (by decide) rfl rfl (fun _ => rfl) (fun v2_1 => ?_)
            refine V_goto (tgt := 39) hC dX3_laysLeast_205 (by decide) ?_
            exact ih σ_5 v2_1
          · intro k_3 hk_3
            exact (w_X3_laysLeast_156 hd a0 x1 v2 k_3 hk_3) FU σ_4 0
        · intro k_2 hk_2
          exact (w_X3_laysLeast_105 hd a0 x1 v2 k_2 hk_2) FU σ_3 0
      · intro k_1 hk_1
        exact (w_X3_laysLeast_46 hd a0 x1 v2 k_1 hk_1) FU σ_2 0
theorem w_X3_laysLeast_2 {l : Launch} {d n0 s0 : Nat} (hd : 5 ≤ d) (a0 : Nat) (x1 : Int32) (k : vMem → Option (vMem)) (hk : ∀ (σ_1 : vMem), V (P_X3_laysLeast l d n0 s0) (vEmb eV) σ_1 37 [some (.ref a0), some (.int x1), none, none, none] [] (k σ_1)) : ∀ (n_4 : Nat) (σ_15 : vMem) (v2_2 : Int32), V (P_X3_laysLeast l d n0 s0) (vEmb eV) σ_15 2 [some (.ref a0), some (.int x1), some (.int v2_2), none, none] [] (f_X3_laysLeast_2 a0 x1 k n_4 σ_15 v2_2) := by
  have hC : vPx (P_X3_laysLeast l d n0 s0) cX3_laysLeast 5 "NobodyBeenAftModel" none d := vMP_cx
  intro n_4
  induction n_4 with
  | zero =>
    intro σ_15 v2_2
    exact V_none
  | succ n_4 ih =>
    intro σ_15 v2_2
    refine V_eq (f_X3_laysLeast_2.eq_2 ..) ?_
    refine V_iload_n hC dX3_laysLeast_2 rfl ?_
    refine V_bipush (v := 9) hC dX3_laysLeast_3 rfl ?_
    refine V_icmp_ge (tgt := 37) hC dX3_laysLeast_5 (by decide) ?_ ?_
    · refine V_clr [2] (ls' := [some (.ref a0), some (.int x1), none, none, none]) rfl ?_
      exact hk σ_15
    · refine V_aload_n hC dX3_laysLeast_8 rfl ?_
      refine g_X3_70 hC dX3_laysLeast_9 (fun b_9 => ?_)
      refine V_iload_n hC dX3_laysLeast_12 rfl ?_
      refine V_iload_n hC dX3_laysLeast_13 rfl ?_
      refine V_aload_n hC dX3_laysLeast_14 rfl ?_
      refine g_X3_34 hC dX3_laysLeast_15 (fun b_10 => ?_)
      refine V_iconst (v := 1) hC dX3_laysLeast_18 rfl ?_
      refine V_iald hC dX3_laysLeast_19 ?_
      refine V_let (B := fun k_8 => ∀ (y_2 : Int32), V (P_X3_laysLeast l d n0 s0) (vEmb eV) σ_15 30 [some (.ref a0), some (.int x1), some (.int v2_2), none, none] [.int y_2, .int v2_2, .ref b_9] (k_8 y_2)) ?_ ?_
      · intro y_2
        refine V_iast hC dX3_laysLeast_30 (fun σ_16 => ?_)
        refine V_iincL (v := v2_2 + 1) (ls' := fun v2_3 => [some (.ref a0), some (.int x1), some (.int v2_3), none, none]) hC dX3_laysLeast_31 rfl (by decide) rfl rfl (fun _ => rfl) (fun v2_3 => ?_)
        refine V_goto (tgt := 2) hC dX3_laysLeast_34 (by decide) ?_
        exact ih σ_16 v2_3
      · intro k_8 hk_8
        refine V_icmp_ne (tgt := 27) hC dX3_laysLeast_20 (by decide) ?_ ?_
        · refine V_sipush (v := 1000) hC dX3_laysLeast_27 rfl ?_
          exact hk_8 1000
        · refine V_iconst (v := 0) hC dX3_laysLeast_23 rfl ?_
          refine V_goto (tgt := 30) hC dX3_laysLeast_24 (by decide) ?_
          exact hk_8 0
theorem w_X3_laysLeast {l : Launch} {d n0 s0 : Nat} (hd : 5 ≤ d) (σ : vMem) (a0 : Nat) (x1 : Int32) : V (P_X3_laysLeast l d n0 s0) (vEmb eV) σ 0 [some (.ref a0), some (.int x1), none, none, none] [] (f_X3_laysLeast σ a0 x1) := by
  have hC : vPx (P_X3_laysLeast l d n0 s0) cX3_laysLeast 5 "NobodyBeenAftModel" none d := vMP_cx
  refine V_eq (f_X3_laysLeast.eq_1 ..) ?_
  refine V_iconst (v := 0) hC dX3_laysLeast_0 rfl ?_
  refine V_istore_n (ls' := [some (.ref a0), some (.int x1), some (.int 0), none, none]) hC dX3_laysLeast_1 (by decide) rfl rfl ?_
  refine V_let (B := fun k => ∀ (σ_1 : vMem), V (P_X3_laysLeast l d n0 s0) (vEmb eV) σ_1 37 [some (.ref a0), some (.int x1), none, none, none] [] (k σ_1)) ?_ ?_
  · intro σ_1
    refine V_iconst (v := 1) hC dX3_laysLeast_37 rfl ?_
    refine V_istore_n (ls' := [some (.ref a0), some (.int x1), some (.int 1), none, none]) hC dX3_laysLeast_38 (by decide) rfl rfl ?_
    exact (w_X3_laysLeast_39 hd a0 x1) FU σ_1 1
  · intro k hk
    exact (w_X3_laysLeast_2 hd a0 x1 k hk) FU σ 0
theorem c_X3_laysLeast {l : Launch} {d : Nat} (hd : 5 ≤ d) {σ : vMem} {a0 : Nat} {x1 : Int32} {r : vMem} (h : f_X3_laysLeast σ a0 x1 = some r) : vOk l yX3_laysLeast cX3_laysLeast 5 none d [.ref a0, .int x1] σ (.inl ((eV).1 r, (eV).2 r)) := V_method (em := eV) [some (.ref a0), some (.int x1), none, none, none] (by decide +kernel) rfl (Nat.le_of_ble_eq_true rfl) (w_X3_laysLeast hd σ a0 x1) h
/-! NobodyBeenAftModel.fewestOrders(I)I -/
def f_X3_fewestOrders_11 (a0 : Nat) (σ_1 : vMem) : Nat → Int32 → Int32 → Option (Int32 × vMem)
  | 0, _, _ => none
  | n + 1, v2, v3 => if 9 ≤ v3 then (some (v2, σ_1)) else cko σ_1 a0 [3] (dr (gr σ_1 a0 37) (fun b => cka σ_1 b 105 v3 (vl (imin v2 (gi σ_1 b (Int32.toNatClampNeg v3))) (fun v2_1 => vl (v3 + 1) (fun v3_1 => f_X3_fewestOrders_11 a0 σ_1 n v2_1 v3_1)))))
def f_X3_fewestOrders (σ : vMem) (a0 : Nat) (x1 : Int32) : Option (Int32 × vMem) := cko σ a0 [3] (bv (f_X3_laysLeast σ a0 x1) (fun σ_1 => f_X3_fewestOrders_11 a0 σ_1 FU 1000 0))
abbrev P_X3_fewestOrders (l : Launch) (d n0 s0 : Nat) : vX → Prop := vMP l yX3_fewestOrders cX3_fewestOrders 4 (some .int) d n0 s0
theorem w_X3_fewestOrders_11 {l : Launch} {d n0 s0 : Nat} (hd : 6 ≤ d) (a0 : Nat) (σ_1 : vMem)  : ∀ (n : Nat) (v2 : Int32) (v3 : Int32), V (P_X3_fewestOrders l d n0 s0) (vEmb eI) σ_1 11 [some (.ref a0), none, some (.int v2), some (.int v3)] [] (f_X3_fewestOrders_11 a0 σ_1 n v2 v3) := by
  have hC : vPx (P_X3_fewestOrders l d n0 s0) cX3_fewestOrders 4 "NobodyBeenAftModel" (some .int) d := vMP_cx
  intro n
  induction n with
  | zero =>
    intro v2 v3
    exact V_none
  | succ n ih =>
    intro v2 v3
    refine V_eq (f_X3_fewestOrders_11.eq_2 ..) ?_
    refine V_iload_n hC dX3_fewestOrders_11 rfl ?_
    refine V_bipush (v := 9) hC dX3_fewestOrders_12 rfl ?_
    refine V_icmp_ge (tgt := 34) hC dX3_fewestOrders_14 (by decide) ?_ ?_
    · refine V_iload_n hC dX3_fewestOrders_34 rfl ?_
      exact V_ireturn dX3_fewestOrders_35 rfl rfl
    · refine V_iload_n hC dX3_fewestOrders_17 rfl ?_
      refine V_aload_n hC dX3_fewestOrders_18 rfl ?_
      refine g_X3_70 hC dX3_fewestOrders_19 (fun b => ?_)
      refine V_iload_n hC dX3_fewestOrders_22 rfl ?_
      refine V_iald hC dX3_fewestOrders_23 ?_
      refine V_mmin hC dX3_fewestOrders_24 q1459 q327 q90 q328 (Nat.le_of_ble_eq_true rfl) ?_
      refine V_istore_nL (ls' := fun v2_1 => [some (.ref a0), none, some (.int v2_1), some (.int v3)]) hC dX3_fewestOrders_27 (by decide) rfl (fun _ => rfl) (fun v2_1 => ?_)
      refine V_iincL (v := v3 + 1) (ls' := fun v3_1 => [some (.ref a0), none, some (.int v2_1), some (.int v3_1)]) hC dX3_fewestOrders_28 rfl (by decide) rfl rfl (fun _ => rfl) (fun v3_1 => ?_)
      refine V_goto (tgt := 11) hC dX3_fewestOrders_31 (by decide) ?_
      exact ih v2_1 v3_1
theorem w_X3_fewestOrders {l : Launch} {d n0 s0 : Nat} (hd : 6 ≤ d) (σ : vMem) (a0 : Nat) (x1 : Int32) : V (P_X3_fewestOrders l d n0 s0) (vEmb eI) σ 0 [some (.ref a0), some (.int x1), none, none] [] (f_X3_fewestOrders σ a0 x1) := by
  have hC : vPx (P_X3_fewestOrders l d n0 s0) cX3_fewestOrders 4 "NobodyBeenAftModel" (some .int) d := vMP_cx
  refine V_eq (f_X3_fewestOrders.eq_1 ..) ?_
  refine V_aload_n hC dX3_fewestOrders_0 rfl ?_
  refine V_iload_n hC dX3_fewestOrders_1 rfl ?_
  refine V_cko (fun hm => V_callV_V (c := 3) (As := [.int x1]) (rest := []) (d' := 5) hC dX3_fewestOrders_2 1 (lw_V q1761 q1763 qs68 q87 q1764) (by decide +kernel) (List.mem_singleton.mp hm) (by decide) (by decide) rfl rfl rfl (Nat.le_of_ble_eq_true rfl) (Nat.le_trans (by decide) hd) (by decide) vMP_l (fun _ h => c_X3_laysLeast (Nat.le_refl _) h) (fun σ_1 => ?_))
  refine V_sipush (v := 1000) hC dX3_fewestOrders_5 rfl ?_
  refine V_istore_n (ls' := [some (.ref a0), some (.int x1), some (.int 1000), none]) hC dX3_fewestOrders_8 (by decide) rfl rfl ?_
  refine V_iconst (v := 0) hC dX3_fewestOrders_9 rfl ?_
  refine V_istore_n (ls' := [some (.ref a0), some (.int x1), some (.int 1000), some (.int 0)]) hC dX3_fewestOrders_10 (by decide) rfl rfl ?_
  refine V_clr [1] (ls' := [some (.ref a0), none, some (.int 1000), some (.int 0)]) rfl ?_
  exact (w_X3_fewestOrders_11 hd a0 σ_1) FU 1000 0
theorem c_X3_fewestOrders {l : Launch} {d : Nat} (hd : 6 ≤ d) {σ : vMem} {a0 : Nat} {x1 : Int32} {r : Int32 × vMem} (h : f_X3_fewestOrders σ a0 x1 = some r) : vOk l yX3_fewestOrders cX3_fewestOrders 4 (some .int) d [.ref a0, .int x1] σ (.inl ((eI).1 r, (eI).2 r)) := V_method (em := eI) [some (.ref a0), some (.int x1), none, none] (by decide +kernel) rfl (Nat.le_of_ble_eq_true rfl) (w_X3_fewestOrders hd σ a0 x1) h
/-! NobodyBeenAftModel.plan(I)I -/
def f_X3_plan_107 (a0 : Nat) (x1 : Int32) (r_1 : Int32) (v3 : Int32) (v4 : Int32) (y : Int32) (k_2 : vMem → Int32 → Option (Int32 × vMem)) : Nat → vMem → Int32 → Int32 → Option (Int32 × vMem)
  | 0, _, _, _ => none
  | n_1 + 1, σ_9, v6_1, v7 => if ¬ v7 = 0 then (k_2 σ_9 v6_1) else cko σ_9 a0 [3] (dr (gr σ_9 a0 36) (fun b => cka σ_9 b 105 v4 (vl (si σ_9 b (Int32.toNatClampNeg v4) v6_1) (fun σ_10 => vl (fun (σ_11 : vMem) (y_3 : Int32) => vl (fun (y_4 : Int32) => bp (f_X3_flag σ_11 y_4) (fun r_4 => vl (v6_1 + r_4) (fun v6_2 => f_X3_plan_107 a0 x1 r_1 v3 v4 y k_2 n_1 σ_11 v6_2 y_3))) (fun k_5 => if ¬ y_3 = 0 then (k_5 0) else k_5 1)) (fun k_4 => vl (fun (σ_12 : vMem) => k_4 σ_12 1) (fun k_6 => if y = 0 then (k_6 σ_10) else cko σ_10 a0 [3] (bd (f_X3_fewestOrders σ_10 a0 x1) (fun r_5 σ_13 => vl (fun (y_5 : Int32) => bp (f_X3_flag σ_13 y_5) (fun r_6 => if ¬ (r_5 + r_6) = v3 then (k_4 σ_13 0) else k_6 σ_13)) (fun k_7 => if v6_1 = 0 then (k_7 0) else k_7 1)))))))))
def f_X3_plan_50 (a0 : Nat) (x1 : Int32) (r_1 : Int32) : Nat → vMem → Int32 → Int32 → Option (Int32 × vMem)
  | 0, _, _, _ => none
  | n + 1, σ_5, v3, v4 => if x1 ≤ v4 then (some (r_1, σ_5)) else cko σ_5 a0 [3] (bp (f_X3_mayGive σ_5 a0 v4) (fun r_2 => vl (fun (σ_6 : vMem) (y : Int32) => vl (fun (y_1 : Int32) => vl (fun (σ_7 : vMem) (v6 : Int32) => vl (fun (y_2 : Int32) => bp (f_X3_flag σ_7 y_2) (fun r_3 => vl (v3 - r_3) (fun v3_1 => cko σ_7 a0 [3] (bv (f_X3_enters σ_7 a0 (Int32.toInt64 v6)) (fun σ_8 => vl (v4 + 1) (fun v4_1 => f_X3_plan_50 a0 x1 r_1 n σ_8 v3_1 v4_1)))))) (fun k_3 => if v6 = 0 then (k_3 0) else k_3 1)) (fun k_2 => f_X3_plan_107 a0 x1 r_1 v3 v4 y k_2 FU σ_6 y_1 0)) (fun k_1 => if y = 0 then (k_1 0) else k_1 (-1))) (fun k => vl (fun (σ_14 : vMem) => k σ_14 0) (fun k_8 => if r_2 = 0 then (k_8 σ_5) else cko σ_5 a0 [3] (dr (gr σ_5 a0 14) (fun b_1 => cka σ_5 b_1 105 0 (cko σ_5 a0 [3] (bd (f_X3_delayAt σ_5 a0 ((gi σ_5 b_1 (Int32.toNatClampNeg 0)) + v4)) (fun r_7 σ_15 => if x1 < (v4 + r_7) then (k_8 σ_15) else k σ_15 1)))))))))
def f_X3_plan (σ : vMem) (a0 : Nat) (x1 : Int32) : Option (Int32 × vMem) := cko σ a0 [3] (vl (si σ a0 0 0) (fun σ_1 => bp (f_X3_in σ_1 (Int32.toInt64 x1) 1 30) (fun r => if ¬ r = 0 then (cko σ_1 a0 [3] (bv (f_X3_choosesAny σ_1 a0 0) (fun σ_2 => cko σ_2 a0 [3] (bd (f_X3_fewestOrders σ_2 a0 x1) (fun r_1 σ_3 => if r_1 < 1000 then (cko σ_3 a0 [3] (vl (si σ_3 a0 1 0) (fun σ_4 => f_X3_plan_50 a0 x1 r_1 FU σ_4 r_1 0))) else some ((-2), σ_3)))))) else some ((-1), σ_1))))
abbrev P_X3_plan (l : Launch) (d n0 s0 : Nat) : vX → Prop := vMP l yX3_plan cX3_plan 8 (some .int) d n0 s0
theorem w_X3_plan_107 {l : Launch} {d n0 s0 : Nat} (hd : 7 ≤ d) (a0 : Nat) (x1 : Int32) (r_1 : Int32) (v3 : Int32) (v4 : Int32) (y : Int32) (k_2 : vMem → Int32 → Option (Int32 × vMem)) (hk_2 : ∀ (σ_7 : vMem), ∀ (v6 : Int32), V (P_X3_plan l d n0 s0) (vEmb eI) σ_7 177 [some (.ref a0), some (.int x1), some (.int r_1), some (.int v3), some (.int v4), none, some (.int v6), none] [] (k_2 σ_7 v6)) : ∀ (n_1 : Nat) (σ_9 : vMem) (v6_1 : Int32) (v7 : Int32), V (P_X3_plan l d n0 s0) (vEmb eI) σ_9 107 [some (.ref a0), some (.int x1), some (.int r_1), some (.int v3), some (.int v4), some (.int y), some (.int v6_1), some (.int v7)] [] (f_X3_plan_107 a0 x1 r_1 v3 v4 y k_2 n_1 σ_9 v6_1 v7) := by
  have hC : vPx (P_X3_plan l d n0 s0) cX3_plan 8 "NobodyBeenAftModel" (some .int) d := vMP_cx
  intro n_1
  induction n_1 with
  | zero =>
    intro σ_9 v6_1 v7
    exact V_none
  | succ n_1 ih =>
    intro σ_9 v6_1 v7
    refine V_eq (f_X3_plan_107.eq_2 ..) ?_
    refine V_iload hC dX3_plan_107 rfl ?_
    refine V_if_ne (tgt := 177) hC dX3_plan_109 (by decide) ?_ ?_
    · refine V_clr [5, 7] (ls' := [some (.ref a0), some (.int x1), some (.int r_1), some (.int v3), some (.int v4), none, some (.int v6_1), none]) rfl ?_
      exact hk_2 σ_9 v6_1
    · refine V_aload_n hC dX3_plan_112 rfl ?_
      refine g_X3_67 hC dX3_plan_113 (fun b => ?_)
      refine V_iload hC dX3_plan_116 rfl ?_
      refine V_iload hC dX3_plan_118 rfl ?_
      refine V_iast hC dX3_plan_120 (fun σ_10 => ?_)
      refine V_iload hC dX3_plan_121 rfl ?_
      refine V_let (B := fun k_4 => ∀ (σ_11 : vMem), ∀ (y_3 : Int32), V (P_X3_plan l d n0 s0) (vEmb eI) σ_11 154 [some (.ref a0), some (.int x1), some (.int r_1), some (.int v3), some (.int v4), some (.int y), some (.int v6_1), none] [.int y_3] (k_4 σ_11 y_3)) ?_ ?_
      · intro σ_11 y_3
        refine V_istore (ls' := [some (.ref a0), some (.int x1), some (.int r_1), some (.int v3), some (.int v4), some (.int y), some (.int v6_1), some (.int y_3)]) hC dX3_plan_154 (by decide) rfl rfl ?_
        refine V_iload hC dX3_plan_156 rfl ?_
        refine V_iload hC dX3_plan_158 rfl ?_
        refine V_let (B := fun k_5 => ∀ (y_4 : Int32), V (P_X3_plan l d n0 s0) (vEmb eI) σ_11 168 [some (.ref a0), some (.int x1), some (.int r_1), some (.int v3), some (.int v4), some (.int y), none, some (.int y_3)] [.int y_4, .int v6_1] (k_5 y_4)) ?_ ?_
        · intro y_4
          refine V_callS_PI (As := [.int y_4]) (rest := [.int v6_1]) (d' := 0) hC dX3_plan_168 1 (lw_S q1478 q1479 q87 q1480) (by decide +kernel) rfl rfl (Nat.le_of_ble_eq_true rfl) (Nat.le_trans (by decide) hd) (by decide) vMP_l (fun _ h => c_X3_flag (Nat.le_refl _) h) (fun r_4 => ?_)
          refine V_iadd hC dX3_plan_171 ?_
          refine V_istoreL (ls' := fun v6_2 => [some (.ref a0), some (.int x1), some (.int r_1), some (.int v3), some (.int v4), some (.int y), some (.int v6_2), some (.int y_3)]) hC dX3_plan_172 (by decide) rfl (fun _ => rfl) (fun v6_2 => ?_)
          refine V_goto (tgt := 107) hC dX3_plan_174 (by decide) ?_
          exact ih σ_11 v6_2 y_3
        · intro k_5 hk_5
          refine V_if_ne (tgt := 167) hC dX3_plan_160 (by decide) ?_ ?_
          · refine V_iconst (v := 0) hC dX3_plan_167 rfl ?_
            refine V_clr [6] (ls' := [some (.ref a0), some (.int x1), some (.int r_1), some (.int v3), some (.int v4), some (.int y), none, some (.int y_3)]) rfl ?_
            exact hk_5 0
          · refine V_iconst (v := 1) hC dX3_plan_163 rfl ?_
            refine V_goto (tgt := 168) hC dX3_plan_164 (by decide) ?_
            refine V_clr [6] (ls' := [some (.ref a0), some (.int x1), some (.int r_1), some (.int v3), some (.int v4), some (.int y), none, some (.int y_3)]) rfl ?_
            exact hk_5 1
      · intro k_4 hk_4
        refine V_let (B := fun k_6 => ∀ (σ_12 : vMem), V (P_X3_plan l d n0 s0) (vEmb eI) σ_12 149 [some (.ref a0), some (.int x1), some (.int r_1), some (.int v3), some (.int v4), some (.int y), some (.int v6_1), none] [] (k_6 σ_12)) ?_ ?_
        · intro σ_12
          refine V_iconst (v := 1) hC dX3_plan_149 rfl ?_
          refine V_goto (tgt := 154) hC dX3_plan_150 (by decide) ?_
          exact hk_4 σ_12 1
        · intro k_6 hk_6
          refine V_if_eq (tgt := 149) hC dX3_plan_123 (by decide) ?_ ?_
          · refine V_clr [7] (ls' := [some (.ref a0), some (.int x1), some (.int r_1), some (.int v3), some (.int v4), some (.int y), some (.int v6_1), none]) rfl ?_
            exact hk_6 σ_10
          · refine V_aload_n hC dX3_plan_126 rfl ?_
            refine V_iload_n hC dX3_plan_127 rfl ?_
            refine V_cko (fun hm => V_callV_I (c := 3) (As := [.int x1]) (rest := []) (d' := 6) hC dX3_plan_128 1 (lw_V q1757 q1759 qs67 q87 q1760) (by decide +kernel) (List.mem_singleton.mp hm) (by decide) (by decide) rfl rfl rfl (Nat.le_of_ble_eq_true rfl) (Nat.le_trans (by decide) hd) (by decide) vMP_l (fun _ h => c_X3_fewestOrders (Nat.le_refl _) h) (fun r_5 σ_13 => ?_))
            refine V_iload hC dX3_plan_131 rfl ?_
            refine V_let (B := fun k_7 => ∀ (y_5 : Int32), V (P_X3_plan l d n0 s0) (vEmb eI) σ_13 141 [some (.ref a0), some (.int x1), some (.int r_1), some (.int v3), some (.int v4), some (.int y), some (.int v6_1), none] [.int y_5, .int r_5] (k_7 y_5)) ?_ ?_
            · intro y_5
              refine V_callS_PI (As := [.int y_5]) (rest := [.int r_5]) (d' := 0) hC dX3_plan_141 1 (lw_S q1478 q1479 q87 q1480) (by decide +kernel) rfl rfl (Nat.le_of_ble_eq_true rfl) (Nat.le_trans (by decide) hd) (by decide) vMP_l (fun _ h => c_X3_flag (Nat.le_refl _) h) (fun r_6 => ?_)
              refine V_iadd hC dX3_plan_144 ?_
              refine V_iload_n hC dX3_plan_145 rfl ?_
              refine V_icmp_ne (tgt := 153) hC dX3_plan_146 (by decide) ?_ ?_
              · refine V_iconst (v := 0) hC dX3_plan_153 rfl ?_
                exact hk_4 σ_13 0
              · exact hk_6 σ_13
            · intro k_7 hk_7
              refine V_if_eq (tgt := 140) hC dX3_plan_133 (by decide) ?_ ?_
              · refine V_iconst (v := 0) hC dX3_plan_140 rfl ?_
                refine V_clr [7] (ls' := [some (.ref a0), some (.int x1), some (.int r_1), some (.int v3), some (.int v4), some (.int y), some (.int v6_1), none]) rfl ?_
                exact hk_7 0
              · refine V_iconst (v := 1) hC dX3_plan_136 rfl ?_
                refine V_goto (tgt := 141) hC dX3_plan_137 (by decide) ?_
                refine V_clr [7] (ls' := [some (.ref a0), some (.int x1), some (.int r_1), some (.int v3), some (.int v4), some (.int y), some (.int v6_1), none]) rfl ?_
                exact hk_7 1
theorem w_X3_plan_50 {l : Launch} {d n0 s0 : Nat} (hd : 7 ≤ d) (a0 : Nat) (x1 : Int32) (r_1 : Int32)  : ∀ (n : Nat) (σ_5 : vMem) (v3 : Int32) (v4 : Int32), V (P_X3_plan l d n0 s0) (vEmb eI) σ_5 50 [some (.ref a0), some (.int x1), some (.int r_1), some (.int v3), some (.int v4), none, none, none] [] (f_X3_plan_50 a0 x1 r_1 n σ_5 v3 v4) := by
  have hC : vPx (P_X3_plan l d n0 s0) cX3_plan 8 "NobodyBeenAftModel" (some .int) d := vMP_cx
  intro n
  induction n with
  | zero =>
    intro σ_5 v3 v4
    exact V_none
  | succ n ih =>
    intro σ_5 v3 v4
    refine V_eq (f_X3_plan_50.eq_2 ..) ?_
    refine V_iload hC dX3_plan_50 rfl ?_
    refine V_iload_n hC dX3_plan_52 rfl ?_
    refine V_icmp_ge (tgt := 206) hC dX3_plan_53 (by decide) ?_ ?_
    · refine V_iload_n hC dX3_plan_206 rfl ?_
      exact V_ireturn dX3_plan_207 rfl rfl
    · refine V_aload_n hC dX3_plan_56 rfl ?_
      refine V_iload hC dX3_plan_57 rfl ?_
      refine V_cko (fun hm => V_callV_PI (c := 3) (As := [.int v4]) (rest := []) (d' := 0) hC dX3_plan_59 1 (lw_V q1744 q1746 qs65 q87 q1747) (by decide +kernel) (List.mem_singleton.mp hm) (by decide) (by decide) rfl rfl rfl (Nat.le_of_ble_eq_true rfl) (Nat.le_trans (by decide) hd) (by decide) vMP_l (fun _ h => c_X3_mayGive (Nat.le_refl _) h) (fun r_2 => ?_))
      refine V_let (B := fun k => ∀ (σ_6 : vMem), ∀ (y : Int32), V (P_X3_plan l d n0 s0) (vEmb eI) σ_6 90 [some (.ref a0), some (.int x1), some (.int r_1), some (.int v3), some (.int v4), none, none, none] [.int y] (k σ_6 y)) ?_ ?_
      · intro σ_6 y
        refine V_istore (ls' := [some (.ref a0), some (.int x1), some (.int r_1), some (.int v3), some (.int v4), some (.int y), none, none]) hC dX3_plan_90 (by decide) rfl rfl ?_
        refine V_iload hC dX3_plan_92 rfl ?_
        refine V_let (B := fun k_1 => ∀ (y_1 : Int32), V (P_X3_plan l d n0 s0) (vEmb eI) σ_6 102 [some (.ref a0), some (.int x1), some (.int r_1), some (.int v3), some (.int v4), some (.int y), none, none] [.int y_1] (k_1 y_1)) ?_ ?_
        · intro y_1
          refine V_istore (ls' := [some (.ref a0), some (.int x1), some (.int r_1), some (.int v3), some (.int v4), some (.int y), some (.int y_1), none]) hC dX3_plan_102 (by decide) rfl rfl ?_
          refine V_iconst (v := 0) hC dX3_plan_104 rfl ?_
          refine V_istore (ls' := [some (.ref a0), some (.int x1), some (.int r_1), some (.int v3), some (.int v4), some (.int y), some (.int y_1), some (.int 0)]) hC dX3_plan_105 (by decide) rfl rfl ?_
          refine V_let (B := fun k_2 => ∀ (σ_7 : vMem), ∀ (v6 : Int32), V (P_X3_plan l d n0 s0) (vEmb eI) σ_7 177 [some (.ref a0), some (.int x1), some (.int r_1), some (.int v3), some (.int v4), none, some (.int v6), none] [] (k_2 σ_7 v6)) ?_ ?_
          · intro σ_7 v6
            refine V_iload_n hC dX3_plan_177 rfl ?_
            refine V_iload hC dX3_plan_178 rfl ?_
            refine V_let (B := fun k_3 => ∀ (y_2 : Int32), V (P_X3_plan l d n0 s0) (vEmb eI) σ_7 188 [some (.ref a0), some (.int x1), some (.int r_1), none, some (.int v4), none, some (.int v6), none] [.int y_2, .int v3] (k_3 y_2)) ?_ ?_
            · intro y_2
              refine V_callS_PI (As := [.int y_2]) (rest := [.int v3]) (d' := 0) hC dX3_plan_188 1 (lw_S q1478 q1479 q87 q1480) (by decide +kernel) rfl rfl (Nat.le_of_ble_eq_true rfl) (Nat.le_trans (by decide) hd) (by decide) vMP_l (fun _ h => c_X3_flag (Nat.le_refl _) h) (fun r_3 => ?_)
              refine V_isub hC dX3_plan_191 ?_
              refine V_istore_nL (ls' := fun v3_1 => [some (.ref a0), some (.int x1), some (.int r_1), some (.int v3_1), some (.int v4), none, some (.int v6), none]) hC dX3_plan_192 (by decide) rfl (fun _ => rfl) (fun v3_1 => ?_)
              refine V_aload_n hC dX3_plan_193 rfl ?_
              refine V_iload hC dX3_plan_194 rfl ?_
              refine V_i2l hC dX3_plan_196 ?_
              refine V_cko (fun hm => V_callV_V (c := 3) (As := [.long (Int32.toInt64 v6)]) (rest := []) (d' := 0) hC dX3_plan_197 1 (lw_V q1697 q1699 qs59 q87 q1700) (by decide +kernel) (List.mem_singleton.mp hm) (by decide) (by decide) rfl rfl rfl (Nat.le_of_ble_eq_true rfl) (Nat.le_trans (by decide) hd) (by decide) vMP_l (fun _ h => c_X3_enters (Nat.le_refl _) h) (fun σ_8 => ?_))
              refine V_iincL (v := v4 + 1) (ls' := fun v4_1 => [some (.ref a0), some (.int x1), some (.int r_1), some (.int v3_1), some (.int v4_1), none, some (.int v6), none]) hC dX3_plan_200 rfl (by decide) rfl rfl (fun _ => rfl) (fun v4_1 => ?_)
              refine V_goto (tgt := 50) hC dX3_plan_203 (by decide) ?_
              refine V_clr [6] (ls' := [some (.ref a0), some (.int x1), some (.int r_1), some (.int v3_1), some (.int v4_1), none, none, none]) rfl ?_
              exact ih σ_8 v3_1 v4_1
            · intro k_3 hk_3
              refine V_if_eq (tgt := 187) hC dX3_plan_180 (by decide) ?_ ?_
              · refine V_iconst (v := 0) hC dX3_plan_187 rfl ?_
                refine V_clr [3] (ls' := [some (.ref a0), some (.int x1), some (.int r_1), none, some (.int v4), none, some (.int v6), none]) rfl ?_
                exact hk_3 0
              · refine V_iconst (v := 1) hC dX3_plan_183 rfl ?_
                refine V_goto (tgt := 188) hC dX3_plan_184 (by decide) ?_
                refine V_clr [3] (ls' := [some (.ref a0), some (.int x1), some (.int r_1), none, some (.int v4), none, some (.int v6), none]) rfl ?_
                exact hk_3 1
          · intro k_2 hk_2
            exact (w_X3_plan_107 hd a0 x1 r_1 v3 v4 y k_2 hk_2) FU σ_6 y_1 0
        · intro k_1 hk_1
          refine V_if_eq (tgt := 101) hC dX3_plan_94 (by decide) ?_ ?_
          · refine V_iconst (v := 0) hC dX3_plan_101 rfl ?_
            exact hk_1 0
          · refine V_iconst (v := (-1)) hC dX3_plan_97 rfl ?_
            refine V_goto (tgt := 102) hC dX3_plan_98 (by decide) ?_
            exact hk_1 (-1)
      · intro k hk
        refine V_let (B := fun k_8 => ∀ (σ_14 : vMem), V (P_X3_plan l d n0 s0) (vEmb eI) σ_14 89 [some (.ref a0), some (.int x1), some (.int r_1), some (.int v3), some (.int v4), none, none, none] [] (k_8 σ_14)) ?_ ?_
        · intro σ_14
          refine V_iconst (v := 0) hC dX3_plan_89 rfl ?_
          exact hk σ_14 0
        · intro k_8 hk_8
          refine V_if_eq (tgt := 89) hC dX3_plan_62 (by decide) ?_ ?_
          · exact hk_8 σ_5
          · refine V_iload hC dX3_plan_65 rfl ?_
            refine V_aload_n hC dX3_plan_67 rfl ?_
            refine V_aload_n hC dX3_plan_68 rfl ?_
            refine g_X3_34 hC dX3_plan_69 (fun b_1 => ?_)
            refine V_iconst (v := 0) hC dX3_plan_72 rfl ?_
            refine V_iald hC dX3_plan_73 ?_
            refine V_iload hC dX3_plan_74 rfl ?_
            refine V_iadd hC dX3_plan_76 ?_
            refine V_cko (fun hm => V_callV_I (c := 3) (As := [.int ((gi σ_5 b_1 (Int32.toNatClampNeg 0)) + v4)]) (rest := [.int v4]) (d' := 3) hC dX3_plan_77 1 (lw_V q1621 q1623 qs47 q87 q1624) (by decide +kernel) (List.mem_singleton.mp hm) (by decide) (by decide) rfl rfl rfl (Nat.le_of_ble_eq_true rfl) (Nat.le_trans (by decide) hd) (by decide) vMP_l (fun _ h => c_X3_delayAt (Nat.le_refl _) h) (fun r_7 σ_15 => ?_))
            refine V_iadd hC dX3_plan_80 ?_
            refine V_iload_n hC dX3_plan_81 rfl ?_
            refine V_icmp_gt (tgt := 89) hC dX3_plan_82 (by decide) ?_ ?_
            · exact hk_8 σ_15
            · refine V_iconst (v := 1) hC dX3_plan_85 rfl ?_
              refine V_goto (tgt := 90) hC dX3_plan_86 (by decide) ?_
              exact hk σ_15 1
theorem w_X3_plan {l : Launch} {d n0 s0 : Nat} (hd : 7 ≤ d) (σ : vMem) (a0 : Nat) (x1 : Int32) : V (P_X3_plan l d n0 s0) (vEmb eI) σ 0 [some (.ref a0), some (.int x1), none, none, none, none, none, none] [] (f_X3_plan σ a0 x1) := by
  have hC : vPx (P_X3_plan l d n0 s0) cX3_plan 8 "NobodyBeenAftModel" (some .int) d := vMP_cx
  refine V_eq (f_X3_plan.eq_1 ..) ?_
  refine V_aload_n hC dX3_plan_0 rfl ?_
  refine V_iconst (v := 0) hC dX3_plan_1 rfl ?_
  refine p_X3_103 hC dX3_plan_2 (fun σ_1 => ?_)
  refine V_iload_n hC dX3_plan_5 rfl ?_
  refine V_i2l hC dX3_plan_6 ?_
  refine V_lconst (v := 1) hC dX3_plan_7 rfl ?_
  refine V_ldc2 hC dX3_plan_8 q1752 ?_
  refine V_callS_PI (As := [.long (Int32.toInt64 x1), .long 1, .long 30]) (rest := []) (d' := 0) hC dX3_plan_11 3 (lw_S q1448 q1449 q87 q1450) (by decide +kernel) rfl rfl (Nat.le_of_ble_eq_true rfl) (Nat.le_trans (by decide) hd) (by decide) vMP_l (fun _ h => c_X3_in (Nat.le_refl _) h) (fun r => ?_)
  refine V_if_ne (tgt := 19) hC dX3_plan_14 (by decide) ?_ ?_
  · refine V_aload_n hC dX3_plan_19 rfl ?_
    refine V_iconst (v := 0) hC dX3_plan_20 rfl ?_
    refine V_cko (fun hm => V_callV_V (c := 3) (As := [.int 0]) (rest := []) (d' := 0) hC dX3_plan_21 1 (lw_V q1753 q1755 qs66 q87 q1756) (by decide +kernel) (List.mem_singleton.mp hm) (by decide) (by decide) rfl rfl rfl (Nat.le_of_ble_eq_true rfl) (Nat.le_trans (by decide) hd) (by decide) vMP_l (fun _ h => c_X3_choosesAny (Nat.le_refl _) h) (fun σ_2 => ?_))
    refine V_aload_n hC dX3_plan_24 rfl ?_
    refine V_iload_n hC dX3_plan_25 rfl ?_
    refine V_cko (fun hm => V_callV_I (c := 3) (As := [.int x1]) (rest := []) (d' := 6) hC dX3_plan_26 1 (lw_V q1757 q1759 qs67 q87 q1760) (by decide +kernel) (List.mem_singleton.mp hm) (by decide) (by decide) rfl rfl rfl (Nat.le_of_ble_eq_true rfl) (Nat.le_trans (by decide) hd) (by decide) vMP_l (fun _ h => c_X3_fewestOrders (Nat.le_refl _) h) (fun r_1 σ_3 => ?_))
    refine V_istore_n (ls' := [some (.ref a0), some (.int x1), some (.int r_1), none, none, none, none, none]) hC dX3_plan_29 (by decide) rfl rfl ?_
    refine V_iload_n hC dX3_plan_30 rfl ?_
    refine V_sipush (v := 1000) hC dX3_plan_31 rfl ?_
    refine V_icmp_lt (tgt := 40) hC dX3_plan_34 (by decide) ?_ ?_
    · refine V_iload_n hC dX3_plan_40 rfl ?_
      refine V_istore_n (ls' := [some (.ref a0), some (.int x1), some (.int r_1), some (.int r_1), none, none, none, none]) hC dX3_plan_41 (by decide) rfl rfl ?_
      refine V_aload_n hC dX3_plan_42 rfl ?_
      refine V_iconst (v := 0) hC dX3_plan_43 rfl ?_
      refine p_X3_110 hC dX3_plan_44 (fun σ_4 => ?_)
      refine V_iconst (v := 0) hC dX3_plan_47 rfl ?_
      refine V_istore (ls' := [some (.ref a0), some (.int x1), some (.int r_1), some (.int r_1), some (.int 0), none, none, none]) hC dX3_plan_48 (by decide) rfl rfl ?_
      exact (w_X3_plan_50 hd a0 x1 r_1) FU σ_4 r_1 0
    · refine V_bipush (v := (-2)) hC dX3_plan_37 rfl ?_
      exact V_ireturn dX3_plan_39 rfl rfl
  · refine V_iconst (v := (-1)) hC dX3_plan_17 rfl ?_
    exact V_ireturn dX3_plan_18 rfl rfl
theorem c_X3_plan {l : Launch} {d : Nat} (hd : 7 ≤ d) {σ : vMem} {a0 : Nat} {x1 : Int32} {r : Int32 × vMem} (h : f_X3_plan σ a0 x1 = some r) : vOk l yX3_plan cX3_plan 8 (some .int) d [.ref a0, .int x1] σ (.inl ((eI).1 r, (eI).2 r)) := V_method (em := eI) [some (.ref a0), some (.int x1), none, none, none, none, none, none] (by decide +kernel) rfl (Nat.le_of_ble_eq_true rfl) (w_X3_plan hd σ a0 x1) h
/-! NobodyBeenAftModel.latest(I)I -/
def f_X3_latest_23 (a0 : Nat) (x1 : Int32) : Nat → vMem → Int32 → Option (Int32 × vMem)
  | 0, _, _ => none
  | n + 1, σ_2, v2_1 => if v2_1 < 0 then (some ((-2), σ_2)) else cko σ_2 a0 [3] (bv (f_X3_choosesAny σ_2 a0 v2_1) (fun σ_3 => cko σ_3 a0 [3] (bd (f_X3_fewestOrders σ_3 a0 x1) (fun r_1 σ_4 => if 1000 ≤ r_1 then (vl (v2_1 + (-1)) (fun v2_2 => f_X3_latest_23 a0 x1 n σ_4 v2_2)) else some (v2_1, σ_4)))))
def f_X3_latest (σ : vMem) (a0 : Nat) (x1 : Int32) : Option (Int32 × vMem) := cko σ a0 [3] (vl (si σ a0 0 0) (fun σ_1 => bp (f_X3_in σ_1 (Int32.toInt64 x1) 1 30) (fun r => if ¬ r = 0 then (vl (x1 - 1) (fun v2 => f_X3_latest_23 a0 x1 FU σ_1 v2)) else some ((-1), σ_1))))
abbrev P_X3_latest (l : Launch) (d n0 s0 : Nat) : vX → Prop := vMP l yX3_latest cX3_latest 3 (some .int) d n0 s0
theorem w_X3_latest_23 {l : Launch} {d n0 s0 : Nat} (hd : 7 ≤ d) (a0 : Nat) (x1 : Int32)  : ∀ (n : Nat) (σ_2 : vMem) (v2_1 : Int32), V (P_X3_latest l d n0 s0) (vEmb eI) σ_2 23 [some (.ref a0), some (.int x1), some (.int v2_1)] [] (f_X3_latest_23 a0 x1 n σ_2 v2_1) := by
  have hC : vPx (P_X3_latest l d n0 s0) cX3_latest 3 "NobodyBeenAftModel" (some .int) d := vMP_cx
  intro n
  induction n with
  | zero =>
    intro σ_2 v2_1
    exact V_none
  | succ n ih =>
    intro σ_2 v2_1
    refine V_eq (f_X3_latest_23.eq_2 ..) ?_
    refine V_iload_n hC dX3_latest_23 rfl ?_
    refine V_if_lt (tgt := 51) hC dX3_latest_24 (by decide) ?_ ?_
    · refine V_bipush (v := (-2)) hC dX3_latest_51 rfl ?_
      exact V_ireturn dX3_latest_53 rfl rfl
    · refine V_aload_n hC dX3_latest_27 rfl ?_
      refine V_iload_n hC dX3_latest_28 rfl ?_
      refine V_cko (fun hm => V_callV_V (c := 3) (As := [.int v2_1]) (rest := []) (d' := 0) hC dX3_latest_29 1 (lw_V q1753 q1755 qs66 q87 q1756) (by decide +kernel) (List.mem_singleton.mp hm) (by decide) (by decide) rfl rfl rfl (Nat.le_of_ble_eq_true rfl) (Nat.le_trans (by decide) hd) (by decide) vMP_l (fun _ h => c_X3_choosesAny (Nat.le_refl _) h) (fun σ_3 => ?_))
      refine V_aload_n hC dX3_latest_32 rfl ?_
      refine V_iload_n hC dX3_latest_33 rfl ?_
      refine V_cko (fun hm => V_callV_I (c := 3) (As := [.int x1]) (rest := []) (d' := 6) hC dX3_latest_34 1 (lw_V q1757 q1759 qs67 q87 q1760) (by decide +kernel) (List.mem_singleton.mp hm) (by decide) (by decide) rfl rfl rfl (Nat.le_of_ble_eq_true rfl) (Nat.le_trans (by decide) hd) (by decide) vMP_l (fun _ h => c_X3_fewestOrders (Nat.le_refl _) h) (fun r_1 σ_4 => ?_))
      refine V_sipush (v := 1000) hC dX3_latest_37 rfl ?_
      refine V_icmp_ge (tgt := 45) hC dX3_latest_40 (by decide) ?_ ?_
      · refine V_iincL (v := v2_1 + (-1)) (ls' := fun v2_2 => [some (.ref a0), some (.int x1), some (.int v2_2)]) hC dX3_latest_45 rfl (by decide) rfl rfl (fun _ => rfl) (fun v2_2 => ?_)
        refine V_goto (tgt := 23) hC dX3_latest_48 (by decide) ?_
        exact ih σ_4 v2_2
      · refine V_iload_n hC dX3_latest_43 rfl ?_
        exact V_ireturn dX3_latest_44 rfl rfl
theorem w_X3_latest {l : Launch} {d n0 s0 : Nat} (hd : 7 ≤ d) (σ : vMem) (a0 : Nat) (x1 : Int32) : V (P_X3_latest l d n0 s0) (vEmb eI) σ 0 [some (.ref a0), some (.int x1), none] [] (f_X3_latest σ a0 x1) := by
  have hC : vPx (P_X3_latest l d n0 s0) cX3_latest 3 "NobodyBeenAftModel" (some .int) d := vMP_cx
  refine V_eq (f_X3_latest.eq_1 ..) ?_
  refine V_aload_n hC dX3_latest_0 rfl ?_
  refine V_iconst (v := 0) hC dX3_latest_1 rfl ?_
  refine p_X3_103 hC dX3_latest_2 (fun σ_1 => ?_)
  refine V_iload_n hC dX3_latest_5 rfl ?_
  refine V_i2l hC dX3_latest_6 ?_
  refine V_lconst (v := 1) hC dX3_latest_7 rfl ?_
  refine V_ldc2 hC dX3_latest_8 q1752 ?_
  refine V_callS_PI (As := [.long (Int32.toInt64 x1), .long 1, .long 30]) (rest := []) (d' := 0) hC dX3_latest_11 3 (lw_S q1448 q1449 q87 q1450) (by decide +kernel) rfl rfl (Nat.le_of_ble_eq_true rfl) (Nat.le_trans (by decide) hd) (by decide) vMP_l (fun _ h => c_X3_in (Nat.le_refl _) h) (fun r => ?_)
  refine V_if_ne (tgt := 19) hC dX3_latest_14 (by decide) ?_ ?_
  · refine V_iload_n hC dX3_latest_19 rfl ?_
    refine V_iconst (v := 1) hC dX3_latest_20 rfl ?_
    refine V_isub hC dX3_latest_21 ?_
    refine V_istore_nL (ls' := fun v2 => [some (.ref a0), some (.int x1), some (.int v2)]) hC dX3_latest_22 (by decide) rfl (fun _ => rfl) (fun v2 => ?_)
    exact (w_X3_latest_23 hd a0 x1) FU σ_1 v2
  · refine V_iconst (v := (-1)) hC dX3_latest_17 rfl ?_
    exact V_ireturn dX3_latest_18 rfl rfl
theorem c_X3_latest {l : Launch} {d : Nat} (hd : 7 ≤ d) {σ : vMem} {a0 : Nat} {x1 : Int32} {r : Int32 × vMem} (h : f_X3_latest σ a0 x1 = some r) : vOk l yX3_latest cX3_latest 3 (some .int) d [.ref a0, .int x1] σ (.inl ((eI).1 r, (eI).2 r)) := V_method (em := eI) [some (.ref a0), some (.int x1), none] (by decide +kernel) rfl (Nat.le_of_ble_eq_true rfl) (w_X3_latest hd σ a0 x1) h
/-! NobodyBeenAftModel.lanes(I)I -/
def f_X3_lanes_33 (a0 : Nat) (σ_3 : vMem) (k : Int32 → Option (Int32 × vMem)) : Nat → Int32 → Int32 → Option (Int32 × vMem)
  | 0, _, _ => none
  | n + 1, v2_1, v3 => if 9 ≤ v3 then (k v2_1) else cko σ_3 a0 [3] (dr (gr σ_3 a0 37) (fun b => cka σ_3 b 105 v3 (vl (fun (y : Int32) => vl (v2_1 ||| y) (fun v2_2 => vl (v3 + 1) (fun v3_1 => f_X3_lanes_33 a0 σ_3 k n v2_2 v3_1))) (fun k_1 => if 1000 ≤ (gi σ_3 b (Int32.toNatClampNeg v3)) then (k_1 0) else k_1 (1 <<< (v3 &&& 31))))))
def f_X3_lanes (σ : vMem) (a0 : Nat) (x1 : Int32) : Option (Int32 × vMem) := cko σ a0 [3] (vl (si σ a0 0 0) (fun σ_1 => bp (f_X3_in σ_1 (Int32.toInt64 x1) 0 30) (fun r => if ¬ r = 0 then (cko σ_1 a0 [3] (bv (f_X3_choosesAny σ_1 a0 0) (fun σ_2 => cko σ_2 a0 [3] (bv (f_X3_laysLeast σ_2 a0 x1) (fun σ_3 => vl (fun (v2 : Int32) => cko σ_3 a0 [3] (vl (si σ_3 a0 1 0) (fun σ_4 => bp (f_J7_bitCount σ_4 v2) (fun r_1 => cko σ_4 a0 [3] (bv (f_X3_enters σ_4 a0 (Int32.toInt64 r_1)) (fun σ_5 => some (v2, σ_5))))))) (fun k => f_X3_lanes_33 a0 σ_3 k FU 0 0)))))) else some ((-1), σ_1))))
abbrev P_X3_lanes (l : Launch) (d n0 s0 : Nat) : vX → Prop := vMP l yX3_lanes cX3_lanes 4 (some .int) d n0 s0
theorem w_X3_lanes_33 {l : Launch} {d n0 s0 : Nat} (hd : 6 ≤ d) (a0 : Nat) (σ_3 : vMem) (k : Int32 → Option (Int32 × vMem)) (hk : ∀ (v2 : Int32), V (P_X3_lanes l d n0 s0) (vEmb eI) σ_3 67 [some (.ref a0), none, some (.int v2), none] [] (k v2)) : ∀ (n : Nat) (v2_1 : Int32) (v3 : Int32), V (P_X3_lanes l d n0 s0) (vEmb eI) σ_3 33 [some (.ref a0), none, some (.int v2_1), some (.int v3)] [] (f_X3_lanes_33 a0 σ_3 k n v2_1 v3) := by
  have hC : vPx (P_X3_lanes l d n0 s0) cX3_lanes 4 "NobodyBeenAftModel" (some .int) d := vMP_cx
  intro n
  induction n with
  | zero =>
    intro v2_1 v3
    exact V_none
  | succ n ih =>
    intro v2_1 v3
    refine V_eq (f_X3_lanes_33.eq_2 ..) ?_
    refine V_iload_n hC dX3_lanes_33 rfl ?_
    refine V_bipush (v := 9) hC dX3_lanes_34 rfl ?_
    refine V_icmp_ge (tgt := 67) hC dX3_lanes_36 (by decide) ?_ ?_
    · refine V_clr [3] (ls' := [some (.ref a0), none, some (.int v2_1), none]) rfl ?_
      exact hk v2_1
    · refine V_iload_n hC dX3_lanes_39 rfl ?_
      refine V_aload_n hC dX3_lanes_40 rfl ?_
      refine g_X3_70 hC dX3_lanes_41 (fun b => ?_)
      refine V_iload_n hC dX3_lanes_44 rfl ?_
      refine V_iald hC dX3_lanes_45 ?_
      refine V_sipush (v := 1000) hC dX3_lanes_46 rfl ?_
      refine V_let (B := fun k_1 => ∀ (y : Int32), V (P_X3_lanes l d n0 s0) (vEmb eI) σ_3 59 [some (.ref a0), none, none, some (.int v3)] [.int y, .int v2_1] (k_1 y)) ?_ ?_
      · intro y
        refine V_ior hC dX3_lanes_59 ?_
        refine V_istore_nL (ls' := fun v2_2 => [some (.ref a0), none, some (.int v2_2), some (.int v3)]) hC dX3_lanes_60 (by decide) rfl (fun _ => rfl) (fun v2_2 => ?_)
        refine V_iincL (v := v3 + 1) (ls' := fun v3_1 => [some (.ref a0), none, some (.int v2_2), some (.int v3_1)]) hC dX3_lanes_61 rfl (by decide) rfl rfl (fun _ => rfl) (fun v3_1 => ?_)
        refine V_goto (tgt := 33) hC dX3_lanes_64 (by decide) ?_
        exact ih v2_2 v3_1
      · intro k_1 hk_1
        refine V_icmp_ge (tgt := 58) hC dX3_lanes_49 (by decide) ?_ ?_
        · refine V_iconst (v := 0) hC dX3_lanes_58 rfl ?_
          refine V_clr [2] (ls' := [some (.ref a0), none, none, some (.int v3)]) rfl ?_
          exact hk_1 0
        · refine V_iconst (v := 1) hC dX3_lanes_52 rfl ?_
          refine V_iload_n hC dX3_lanes_53 rfl ?_
          refine V_ishl hC dX3_lanes_54 ?_
          refine V_goto (tgt := 59) hC dX3_lanes_55 (by decide) ?_
          refine V_clr [2] (ls' := [some (.ref a0), none, none, some (.int v3)]) rfl ?_
          exact hk_1 (1 <<< (v3 &&& 31))
theorem w_X3_lanes {l : Launch} {d n0 s0 : Nat} (hd : 6 ≤ d) (σ : vMem) (a0 : Nat) (x1 : Int32) : V (P_X3_lanes l d n0 s0) (vEmb eI) σ 0 [some (.ref a0), some (.int x1), none, none] [] (f_X3_lanes σ a0 x1) := by
  have hC : vPx (P_X3_lanes l d n0 s0) cX3_lanes 4 "NobodyBeenAftModel" (some .int) d := vMP_cx
  refine V_eq (f_X3_lanes.eq_1 ..) ?_
  refine V_aload_n hC dX3_lanes_0 rfl ?_
  refine V_iconst (v := 0) hC dX3_lanes_1 rfl ?_
  refine p_X3_103 hC dX3_lanes_2 (fun σ_1 => ?_)
  refine V_iload_n hC dX3_lanes_5 rfl ?_
  refine V_i2l hC dX3_lanes_6 ?_
  refine V_lconst (v := 0) hC dX3_lanes_7 rfl ?_
  refine V_ldc2 hC dX3_lanes_8 q1752 ?_
  refine V_callS_PI (As := [.long (Int32.toInt64 x1), .long 0, .long 30]) (rest := []) (d' := 0) hC dX3_lanes_11 3 (lw_S q1448 q1449 q87 q1450) (by decide +kernel) rfl rfl (Nat.le_of_ble_eq_true rfl) (Nat.le_trans (by decide) hd) (by decide) vMP_l (fun _ h => c_X3_in (Nat.le_refl _) h) (fun r => ?_)
  refine V_if_ne (tgt := 19) hC dX3_lanes_14 (by decide) ?_ ?_
  · refine V_aload_n hC dX3_lanes_19 rfl ?_
    refine V_iconst (v := 0) hC dX3_lanes_20 rfl ?_
    refine V_cko (fun hm => V_callV_V (c := 3) (As := [.int 0]) (rest := []) (d' := 0) hC dX3_lanes_21 1 (lw_V q1753 q1755 qs66 q87 q1756) (by decide +kernel) (List.mem_singleton.mp hm) (by decide) (by decide) rfl rfl rfl (Nat.le_of_ble_eq_true rfl) (Nat.le_trans (by decide) hd) (by decide) vMP_l (fun _ h => c_X3_choosesAny (Nat.le_refl _) h) (fun σ_2 => ?_))
    refine V_aload_n hC dX3_lanes_24 rfl ?_
    refine V_iload_n hC dX3_lanes_25 rfl ?_
    refine V_cko (fun hm => V_callV_V (c := 3) (As := [.int x1]) (rest := []) (d' := 5) hC dX3_lanes_26 1 (lw_V q1761 q1763 qs68 q87 q1764) (by decide +kernel) (List.mem_singleton.mp hm) (by decide) (by decide) rfl rfl rfl (Nat.le_of_ble_eq_true rfl) (Nat.le_trans (by decide) hd) (by decide) vMP_l (fun _ h => c_X3_laysLeast (Nat.le_refl _) h) (fun σ_3 => ?_))
    refine V_iconst (v := 0) hC dX3_lanes_29 rfl ?_
    refine V_istore_n (ls' := [some (.ref a0), some (.int x1), some (.int 0), none]) hC dX3_lanes_30 (by decide) rfl rfl ?_
    refine V_iconst (v := 0) hC dX3_lanes_31 rfl ?_
    refine V_istore_n (ls' := [some (.ref a0), some (.int x1), some (.int 0), some (.int 0)]) hC dX3_lanes_32 (by decide) rfl rfl ?_
    refine V_let (B := fun k => ∀ (v2 : Int32), V (P_X3_lanes l d n0 s0) (vEmb eI) σ_3 67 [some (.ref a0), none, some (.int v2), none] [] (k v2)) ?_ ?_
    · intro v2
      refine V_aload_n hC dX3_lanes_67 rfl ?_
      refine V_iconst (v := 0) hC dX3_lanes_68 rfl ?_
      refine p_X3_110 hC dX3_lanes_69 (fun σ_4 => ?_)
      refine V_aload_n hC dX3_lanes_72 rfl ?_
      refine V_iload_n hC dX3_lanes_73 rfl ?_
      refine V_callS_PI (As := [.int v2]) (rest := [.ref a0]) (d' := 0) hC dX3_lanes_74 1 (lw_S q1777 q624 q103 q625) (by decide +kernel) rfl rfl (Nat.le_of_ble_eq_true rfl) (Nat.le_trans (by decide) hd) (by decide) vMP_l (fun _ h => c_J7_bitCount (Nat.le_refl _) h) (fun r_1 => ?_)
      refine V_i2l hC dX3_lanes_77 ?_
      refine V_cko (fun hm => V_callV_V (c := 3) (As := [.long (Int32.toInt64 r_1)]) (rest := []) (d' := 0) hC dX3_lanes_78 1 (lw_V q1697 q1699 qs59 q87 q1700) (by decide +kernel) (List.mem_singleton.mp hm) (by decide) (by decide) rfl rfl rfl (Nat.le_of_ble_eq_true rfl) (Nat.le_trans (by decide) hd) (by decide) vMP_l (fun _ h => c_X3_enters (Nat.le_refl _) h) (fun σ_5 => ?_))
      refine V_iload_n hC dX3_lanes_81 rfl ?_
      exact V_ireturn dX3_lanes_82 rfl rfl
    · intro k hk
      refine V_clr [1] (ls' := [some (.ref a0), none, some (.int 0), some (.int 0)]) rfl ?_
      exact (w_X3_lanes_33 hd a0 σ_3 k hk) FU 0 0
  · refine V_iconst (v := (-1)) hC dX3_lanes_17 rfl ?_
    exact V_ireturn dX3_lanes_18 rfl rfl
theorem c_X3_lanes {l : Launch} {d : Nat} (hd : 6 ≤ d) {σ : vMem} {a0 : Nat} {x1 : Int32} {r : Int32 × vMem} (h : f_X3_lanes σ a0 x1 = some r) : vOk l yX3_lanes cX3_lanes 4 (some .int) d [.ref a0, .int x1] σ (.inl ((eI).1 r, (eI).2 r)) := V_method (em := eI) [some (.ref a0), some (.int x1), none, none] (by decide +kernel) rfl (Nat.le_of_ble_eq_true rfl) (w_X3_lanes hd σ a0 x1) h
/-! NobodyBeenAftModel.rocksIn(II)I -/
def f_X3_rocksIn_5 (σ : vMem) (a0 : Nat) (x1 : Int32) (x2 : Int32) : Nat → Int32 → Int32 → Option (Int32)
  | 0, _, _ => none
  | n + 1, v3, v4 => cko σ a0 [3] (if (gi σ a0 6) ≤ v4 then (some v3) else cko σ a0 [3] (dr (gr σ a0 12) (fun b => cka σ b 105 v4 (vl (fun (y : Int32) => bp (f_X3_flag σ y) (fun r => vl (v3 + r) (fun v3_1 => vl (v4 + 1) (fun v4_1 => f_X3_rocksIn_5 σ a0 x1 x2 n v3_1 v4_1)))) (fun k => vl (k 0) (fun k_1 => if ¬ (gi σ b (Int32.toNatClampNeg v4)) = x1 then k_1 else cko σ a0 [3] (dr (gr σ a0 11) (fun b_1 => cka σ b_1 105 v4 (cko σ a0 [3] (dr (gr σ a0 14) (fun b_2 => cka σ b_2 105 0 (cko σ a0 [3] (dr (gr σ a0 14) (fun b_3 => cka σ b_3 105 0 (bp (f_X3_in σ (Int32.toInt64 (gi σ b_1 (Int32.toNatClampNeg v4))) (Int32.toInt64 ((gi σ b_2 (Int32.toNatClampNeg 0)) + 1)) ((Int32.toInt64 (gi σ b_3 (Int32.toNatClampNeg 0))) + (Int32.toInt64 x2))) (fun r_1 => if r_1 = 0 then k_1 else k 1))))))))))))))))
def f_X3_rocksIn (σ : vMem) (a0 : Nat) (x1 : Int32) (x2 : Int32) : Option (Int32) := f_X3_rocksIn_5 σ a0 x1 x2 FU 0 0
abbrev P_X3_rocksIn (l : Launch) (d n0 s0 : Nat) : vX → Prop := vMP l yX3_rocksIn cX3_rocksIn 5 (some .int) d n0 s0
theorem w_X3_rocksIn_5 {l : Launch} {d n0 s0 : Nat} (hd : 1 ≤ d) (σ : vMem) (a0 : Nat) (x1 : Int32) (x2 : Int32)  : ∀ (n : Nat) (v3 : Int32) (v4 : Int32), V (P_X3_rocksIn l d n0 s0) (vEmb (ePI σ)) σ 5 [some (.ref a0), some (.int x1), some (.int x2), some (.int v3), some (.int v4)] [] (f_X3_rocksIn_5 σ a0 x1 x2 n v3 v4) := by
  have hC : vPx (P_X3_rocksIn l d n0 s0) cX3_rocksIn 5 "NobodyBeenAftModel" (some .int) d := vMP_cx
  intro n
  induction n with
  | zero =>
    intro v3 v4
    exact V_none
  | succ n ih =>
    intro v3 v4
    refine V_eq (f_X3_rocksIn_5.eq_2 ..) ?_
    refine V_iload hC dX3_rocksIn_5 rfl ?_
    refine V_aload_n hC dX3_rocksIn_7 rfl ?_
    refine g_X3_196 hC dX3_rocksIn_8 ?_
    refine V_icmp_ge (tgt := 75) hC dX3_rocksIn_11 (by decide) ?_ ?_
    · refine V_iload_n hC dX3_rocksIn_75 rfl ?_
      exact V_ireturn dX3_rocksIn_76 rfl rfl
    · refine V_iload_n hC dX3_rocksIn_14 rfl ?_
      refine V_aload_n hC dX3_rocksIn_15 rfl ?_
      refine g_X3_28 hC dX3_rocksIn_16 (fun b => ?_)
      refine V_iload hC dX3_rocksIn_19 rfl ?_
      refine V_iald hC dX3_rocksIn_21 ?_
      refine V_iload_n hC dX3_rocksIn_22 rfl ?_
      refine V_let (B := fun k => ∀ (y : Int32), V (P_X3_rocksIn l d n0 s0) (vEmb (ePI σ)) σ 64 [some (.ref a0), some (.int x1), some (.int x2), none, some (.int v4)] [.int y, .int v3] (k y)) ?_ ?_
      · intro y
        refine V_callS_PI (As := [.int y]) (rest := [.int v3]) (d' := 0) hC dX3_rocksIn_64 1 (lw_S q1478 q1479 q87 q1480) (by decide +kernel) rfl rfl (Nat.le_of_ble_eq_true rfl) (Nat.le_trans (by decide) hd) (by decide) vMP_l (fun _ h => c_X3_flag (Nat.le_refl _) h) (fun r => ?_)
        refine V_iadd hC dX3_rocksIn_67 ?_
        refine V_istore_nL (ls' := fun v3_1 => [some (.ref a0), some (.int x1), some (.int x2), some (.int v3_1), some (.int v4)]) hC dX3_rocksIn_68 (by decide) rfl (fun _ => rfl) (fun v3_1 => ?_)
        refine V_iincL (v := v4 + 1) (ls' := fun v4_1 => [some (.ref a0), some (.int x1), some (.int x2), some (.int v3_1), some (.int v4_1)]) hC dX3_rocksIn_69 rfl (by decide) rfl rfl (fun _ => rfl) (fun v4_1 => ?_)
        refine V_goto (tgt := 5) hC dX3_rocksIn_72 (by decide) ?_
        exact ih v3_1 v4_1
      · intro k hk
        refine V_let (B := fun k_1 => V (P_X3_rocksIn l d n0 s0) (vEmb (ePI σ)) σ 63 [some (.ref a0), some (.int x1), some (.int x2), none, some (.int v4)] [.int v3] (k_1)) ?_ ?_
        · skip
          refine V_iconst (v := 0) hC dX3_rocksIn_63 rfl ?_
          exact hk 0
        · intro k_1 hk_1
          refine V_icmp_ne (tgt := 63) hC dX3_rocksIn_23 (by decide) ?_ ?_
          · refine V_clr [3] (ls' := [some (.ref a0), some (.int x1), some (.int x2), none, some (.int v4)]) rfl ?_
            exact hk_1
          · refine V_aload_n hC dX3_rocksIn_26 rfl ?_
            refine g_X3_25 hC dX3_rocksIn_27 (fun b_1 => ?_)
            refine V_iload hC dX3_rocksIn_30 rfl ?_
            refine V_iald hC dX3_rocksIn_32 ?_
            refine V_i2l hC dX3_rocksIn_33 ?_
            refine V_aload_n hC dX3_rocksIn_34 rfl ?_
            refine g_X3_34 hC dX3_rocksIn_35 (fun b_2 => ?_)
            refine V_iconst (v := 0) hC dX3_rocksIn_38 rfl ?_
            refine V_iald hC dX3_rocksIn_39 ?_
            refine V_iconst (v := 1) hC dX3_rocksIn_40 rfl ?_
            refine V_iadd hC dX3_rocksIn_41 ?_
            refine V_i2l hC dX3_rocksIn_42 ?_
            refine V_aload_n hC dX3_rocksIn_43 rfl ?_
            refine g_X3_34 hC dX3_rocksIn_44 (fun b_3 => ?_)
            refine V_iconst (v := 0) hC dX3_rocksIn_47 rfl ?_
            refine V_iald hC dX3_rocksIn_48 ?_
            refine V_i2l hC dX3_rocksIn_49 ?_
            refine V_iload_n hC dX3_rocksIn_50 rfl ?_
            refine V_i2l hC dX3_rocksIn_51 ?_
            refine V_ladd hC dX3_rocksIn_52 ?_
            refine V_callS_PI (As := [.long (Int32.toInt64 (gi σ b_1 (Int32.toNatClampNeg v4))), .long (Int32.toInt64 ((gi σ b_2 (Int32.toNatClampNeg 0)) + 1)), .long ((Int32.toInt64 (gi σ b_3 (Int32.toNatClampNeg 0))) + (Int32.toInt64 x2))]) (rest := [.int v3]) (d' := 0) hC dX3_rocksIn_53 3 (lw_S q1448 q1449 q87 q1450) (by decide +kernel) rfl rfl (Nat.le_of_ble_eq_true rfl) (Nat.le_trans (by decide) hd) (by decide) vMP_l (fun _ h => c_X3_in (Nat.le_refl _) h) (fun r_1 => ?_)
            refine V_if_eq (tgt := 63) hC dX3_rocksIn_56 (by decide) ?_ ?_
            · refine V_clr [3] (ls' := [some (.ref a0), some (.int x1), some (.int x2), none, some (.int v4)]) rfl ?_
              exact hk_1
            · refine V_iconst (v := 1) hC dX3_rocksIn_59 rfl ?_
              refine V_goto (tgt := 64) hC dX3_rocksIn_60 (by decide) ?_
              refine V_clr [3] (ls' := [some (.ref a0), some (.int x1), some (.int x2), none, some (.int v4)]) rfl ?_
              exact hk 1
theorem w_X3_rocksIn {l : Launch} {d n0 s0 : Nat} (hd : 1 ≤ d) (σ : vMem) (a0 : Nat) (x1 : Int32) (x2 : Int32) : V (P_X3_rocksIn l d n0 s0) (vEmb (ePI σ)) σ 0 [some (.ref a0), some (.int x1), some (.int x2), none, none] [] (f_X3_rocksIn σ a0 x1 x2) := by
  have hC : vPx (P_X3_rocksIn l d n0 s0) cX3_rocksIn 5 "NobodyBeenAftModel" (some .int) d := vMP_cx
  refine V_eq (f_X3_rocksIn.eq_1 ..) ?_
  refine V_iconst (v := 0) hC dX3_rocksIn_0 rfl ?_
  refine V_istore_n (ls' := [some (.ref a0), some (.int x1), some (.int x2), some (.int 0), none]) hC dX3_rocksIn_1 (by decide) rfl rfl ?_
  refine V_iconst (v := 0) hC dX3_rocksIn_2 rfl ?_
  refine V_istore (ls' := [some (.ref a0), some (.int x1), some (.int x2), some (.int 0), some (.int 0)]) hC dX3_rocksIn_3 (by decide) rfl rfl ?_
  exact (w_X3_rocksIn_5 hd σ a0 x1 x2) FU 0 0
theorem c_X3_rocksIn {l : Launch} {d : Nat} (hd : 1 ≤ d) {σ : vMem} {a0 : Nat} {x1 : Int32} {x2 : Int32} {r : Int32} (h : f_X3_rocksIn σ a0 x1 x2 = some r) : vOk l yX3_rocksIn cX3_rocksIn 5 (some .int) d [.ref a0, .int x1, .int x2] σ (.inl (((ePI σ)).1 r, ((ePI σ)).2 r)) := V_method (em := (ePI σ)) [some (.ref a0), some (.int x1), some (.int x2), none, none] (by decide +kernel) rfl (Nat.le_of_ble_eq_true rfl) (w_X3_rocksIn hd σ a0 x1 x2) h
/-! NobodyBeenAftModel.safest(I)I -/
def f_X3_safest_23 (a0 : Nat) (x1 : Int32) (σ_1 : vMem) (k : Int32 → Option (Int32 × vMem)) : Nat → Int32 → Int32 → Option (Int32 × vMem)
  | 0, _, _ => none
  | n + 1, v2_1, v3 => if 9 ≤ v3 then (k v2_1) else cko σ_1 a0 [3] (bp (f_X3_rocksIn σ_1 a0 v3 x1) (fun r_3 => cko σ_1 a0 [3] (bp (f_X3_rocksIn σ_1 a0 v2_1 x1) (fun r_4 => vl (r_3 - r_4) (fun v4 => cko σ_1 a0 [3] (dr (gr σ_1 a0 14) (fun b_1 => cka σ_1 b_1 105 1 (cko σ_1 a0 [3] (dr (gr σ_1 a0 14) (fun b_2 => cka σ_1 b_2 105 1 (vl ((iabs (v3 - (gi σ_1 b_1 (Int32.toNatClampNeg 1)))) - (iabs (v2_1 - (gi σ_1 b_2 (Int32.toNatClampNeg 1))))) (fun v5 => vl (fun (y : Int32) => vl (v3 + 1) (fun v3_1 => f_X3_safest_23 a0 x1 σ_1 k n y v3_1)) (fun k_1 => vl (k_1 v3) (fun k_2 => if v4 < 0 then k_2 else vl (k_1 v2_1) (fun k_3 => if ¬ v4 = 0 then k_3 else if 0 ≤ v5 then k_3 else k_2)))))))))))))))
def f_X3_safest (σ : vMem) (a0 : Nat) (x1 : Int32) : Option (Int32 × vMem) := cko σ a0 [3] (vl (si σ a0 0 0) (fun σ_1 => bp (f_X3_in σ_1 (Int32.toInt64 x1) 1 999) (fun r => if ¬ r = 0 then (vl (fun (v2 : Int32) => cko σ_1 a0 [3] (vl (si σ_1 a0 1 0) (fun σ_2 => cko σ_2 a0 [3] (bp (f_X3_rocksIn σ_2 a0 v2 x1) (fun r_1 => cko σ_2 a0 [3] (bv (f_X3_enters σ_2 a0 (Int32.toInt64 r_1)) (fun σ_3 => cko σ_3 a0 [3] (dr (gr σ_3 a0 14) (fun b => cka σ_3 b 105 1 (cko σ_3 a0 [3] (bp (f_X3_rocksIn σ_3 a0 (gi σ_3 b (Int32.toNatClampNeg 1)) x1) (fun r_2 => cko σ_3 a0 [3] (bv (f_X3_enters σ_3 a0 (Int32.toInt64 r_2)) (fun σ_4 => some (v2, σ_4))))))))))))))) (fun k => f_X3_safest_23 a0 x1 σ_1 k FU 0 1)) else some ((-1), σ_1))))
abbrev P_X3_safest (l : Launch) (d n0 s0 : Nat) : vX → Prop := vMP l yX3_safest cX3_safest 6 (some .int) d n0 s0
theorem w_X3_safest_23 {l : Launch} {d n0 s0 : Nat} (hd : 2 ≤ d) (a0 : Nat) (x1 : Int32) (σ_1 : vMem) (k : Int32 → Option (Int32 × vMem)) (hk : ∀ (v2 : Int32), V (P_X3_safest l d n0 s0) (vEmb eI) σ_1 96 [some (.ref a0), some (.int x1), some (.int v2), none, none, none] [] (k v2)) : ∀ (n : Nat) (v2_1 : Int32) (v3 : Int32), V (P_X3_safest l d n0 s0) (vEmb eI) σ_1 23 [some (.ref a0), some (.int x1), some (.int v2_1), some (.int v3), none, none] [] (f_X3_safest_23 a0 x1 σ_1 k n v2_1 v3) := by
  have hC : vPx (P_X3_safest l d n0 s0) cX3_safest 6 "NobodyBeenAftModel" (some .int) d := vMP_cx
  intro n
  induction n with
  | zero =>
    intro v2_1 v3
    exact V_none
  | succ n ih =>
    intro v2_1 v3
    refine V_eq (f_X3_safest_23.eq_2 ..) ?_
    refine V_iload_n hC dX3_safest_23 rfl ?_
    refine V_bipush (v := 9) hC dX3_safest_24 rfl ?_
    refine V_icmp_ge (tgt := 96) hC dX3_safest_26 (by decide) ?_ ?_
    · refine V_clr [3] (ls' := [some (.ref a0), some (.int x1), some (.int v2_1), none, none, none]) rfl ?_
      exact hk v2_1
    · refine V_aload_n hC dX3_safest_29 rfl ?_
      refine V_iload_n hC dX3_safest_30 rfl ?_
      refine V_iload_n hC dX3_safest_31 rfl ?_
      refine V_cko (fun hm => V_callV_PI (c := 3) (As := [.int v3, .int x1]) (rest := []) (d' := 1) hC dX3_safest_32 2 (lw_V q1783 q1785 qs70 q87 q1786) (by decide +kernel) (List.mem_singleton.mp hm) (by decide) (by decide) rfl rfl rfl (Nat.le_of_ble_eq_true rfl) (Nat.le_trans (by decide) hd) (by decide) vMP_l (fun _ h => c_X3_rocksIn (Nat.le_refl _) h) (fun r_3 => ?_))
      refine V_aload_n hC dX3_safest_35 rfl ?_
      refine V_iload_n hC dX3_safest_36 rfl ?_
      refine V_iload_n hC dX3_safest_37 rfl ?_
      refine V_cko (fun hm => V_callV_PI (c := 3) (As := [.int v2_1, .int x1]) (rest := [.int r_3]) (d' := 1) hC dX3_safest_38 2 (lw_V q1783 q1785 qs70 q87 q1786) (by decide +kernel) (List.mem_singleton.mp hm) (by decide) (by decide) rfl rfl rfl (Nat.le_of_ble_eq_true rfl) (Nat.le_trans (by decide) hd) (by decide) vMP_l (fun _ h => c_X3_rocksIn (Nat.le_refl _) h) (fun r_4 => ?_))
      refine V_isub hC dX3_safest_41 ?_
      refine V_istoreL (ls' := fun v4 => [some (.ref a0), some (.int x1), some (.int v2_1), some (.int v3), some (.int v4), none]) hC dX3_safest_42 (by decide) rfl (fun _ => rfl) (fun v4 => ?_)
      refine V_iload_n hC dX3_safest_44 rfl ?_
      refine V_aload_n hC dX3_safest_45 rfl ?_
      refine g_X3_34 hC dX3_safest_46 (fun b_1 => ?_)
      refine V_iconst (v := 1) hC dX3_safest_49 rfl ?_
      refine V_iald hC dX3_safest_50 ?_
      refine V_isub hC dX3_safest_51 ?_
      refine V_mabs hC dX3_safest_52 q1787 q1085 q90 q1086 (Nat.le_of_ble_eq_true rfl) ?_
      refine V_iload_n hC dX3_safest_55 rfl ?_
      refine V_aload_n hC dX3_safest_56 rfl ?_
      refine g_X3_34 hC dX3_safest_57 (fun b_2 => ?_)
      refine V_iconst (v := 1) hC dX3_safest_60 rfl ?_
      refine V_iald hC dX3_safest_61 ?_
      refine V_isub hC dX3_safest_62 ?_
      refine V_mabs hC dX3_safest_63 q1787 q1085 q90 q1086 (Nat.le_of_ble_eq_true rfl) ?_
      refine V_isub hC dX3_safest_66 ?_
      refine V_istoreL (ls' := fun v5 => [some (.ref a0), some (.int x1), some (.int v2_1), some (.int v3), some (.int v4), some (.int v5)]) hC dX3_safest_67 (by decide) rfl (fun _ => rfl) (fun v5 => ?_)
      refine V_iload hC dX3_safest_69 rfl ?_
      refine V_let (B := fun k_1 => ∀ (y : Int32), V (P_X3_safest l d n0 s0) (vEmb eI) σ_1 89 [some (.ref a0), some (.int x1), none, some (.int v3), none, none] [.int y] (k_1 y)) ?_ ?_
      · intro y
        refine V_istore_n (ls' := [some (.ref a0), some (.int x1), some (.int y), some (.int v3), none, none]) hC dX3_safest_89 (by decide) rfl rfl ?_
        refine V_iincL (v := v3 + 1) (ls' := fun v3_1 => [some (.ref a0), some (.int x1), some (.int y), some (.int v3_1), none, none]) hC dX3_safest_90 rfl (by decide) rfl rfl (fun _ => rfl) (fun v3_1 => ?_)
        refine V_goto (tgt := 23) hC dX3_safest_93 (by decide) ?_
        exact ih y v3_1
      · intro k_1 hk_1
        refine V_let (B := fun k_2 => V (P_X3_safest l d n0 s0) (vEmb eI) σ_1 84 [some (.ref a0), some (.int x1), none, some (.int v3), none, none] [] (k_2)) ?_ ?_
        · skip
          refine V_iload_n hC dX3_safest_84 rfl ?_
          refine V_goto (tgt := 89) hC dX3_safest_85 (by decide) ?_
          exact hk_1 v3
        · intro k_2 hk_2
          refine V_if_lt (tgt := 84) hC dX3_safest_71 (by decide) ?_ ?_
          · refine V_clr [2, 4, 5] (ls' := [some (.ref a0), some (.int x1), none, some (.int v3), none, none]) rfl ?_
            exact hk_2
          · refine V_iload hC dX3_safest_74 rfl ?_
            refine V_let (B := fun k_3 => V (P_X3_safest l d n0 s0) (vEmb eI) σ_1 88 [some (.ref a0), some (.int x1), some (.int v2_1), some (.int v3), none, none] [] (k_3)) ?_ ?_
            · skip
              refine V_iload_n hC dX3_safest_88 rfl ?_
              refine V_clr [2] (ls' := [some (.ref a0), some (.int x1), none, some (.int v3), none, none]) rfl ?_
              exact hk_1 v2_1
            · intro k_3 hk_3
              refine V_if_ne (tgt := 88) hC dX3_safest_76 (by decide) ?_ ?_
              · refine V_clr [4, 5] (ls' := [some (.ref a0), some (.int x1), some (.int v2_1), some (.int v3), none, none]) rfl ?_
                exact hk_3
              · refine V_iload hC dX3_safest_79 rfl ?_
                refine V_if_ge (tgt := 88) hC dX3_safest_81 (by decide) ?_ ?_
                · refine V_clr [4, 5] (ls' := [some (.ref a0), some (.int x1), some (.int v2_1), some (.int v3), none, none]) rfl ?_
                  exact hk_3
                · refine V_clr [2, 4, 5] (ls' := [some (.ref a0), some (.int x1), none, some (.int v3), none, none]) rfl ?_
                  exact hk_2
theorem w_X3_safest {l : Launch} {d n0 s0 : Nat} (hd : 2 ≤ d) (σ : vMem) (a0 : Nat) (x1 : Int32) : V (P_X3_safest l d n0 s0) (vEmb eI) σ 0 [some (.ref a0), some (.int x1), none, none, none, none] [] (f_X3_safest σ a0 x1) := by
  have hC : vPx (P_X3_safest l d n0 s0) cX3_safest 6 "NobodyBeenAftModel" (some .int) d := vMP_cx
  refine V_eq (f_X3_safest.eq_1 ..) ?_
  refine V_aload_n hC dX3_safest_0 rfl ?_
  refine V_iconst (v := 0) hC dX3_safest_1 rfl ?_
  refine p_X3_103 hC dX3_safest_2 (fun σ_1 => ?_)
  refine V_iload_n hC dX3_safest_5 rfl ?_
  refine V_i2l hC dX3_safest_6 ?_
  refine V_lconst (v := 1) hC dX3_safest_7 rfl ?_
  refine V_ldc2 hC dX3_safest_8 q1782 ?_
  refine V_callS_PI (As := [.long (Int32.toInt64 x1), .long 1, .long 999]) (rest := []) (d' := 0) hC dX3_safest_11 3 (lw_S q1448 q1449 q87 q1450) (by decide +kernel) rfl rfl (Nat.le_of_ble_eq_true rfl) (Nat.le_trans (by decide) hd) (by decide) vMP_l (fun _ h => c_X3_in (Nat.le_refl _) h) (fun r => ?_)
  refine V_if_ne (tgt := 19) hC dX3_safest_14 (by decide) ?_ ?_
  · refine V_iconst (v := 0) hC dX3_safest_19 rfl ?_
    refine V_istore_n (ls' := [some (.ref a0), some (.int x1), some (.int 0), none, none, none]) hC dX3_safest_20 (by decide) rfl rfl ?_
    refine V_iconst (v := 1) hC dX3_safest_21 rfl ?_
    refine V_istore_n (ls' := [some (.ref a0), some (.int x1), some (.int 0), some (.int 1), none, none]) hC dX3_safest_22 (by decide) rfl rfl ?_
    refine V_let (B := fun k => ∀ (v2 : Int32), V (P_X3_safest l d n0 s0) (vEmb eI) σ_1 96 [some (.ref a0), some (.int x1), some (.int v2), none, none, none] [] (k v2)) ?_ ?_
    · intro v2
      refine V_aload_n hC dX3_safest_96 rfl ?_
      refine V_iconst (v := 0) hC dX3_safest_97 rfl ?_
      refine p_X3_110 hC dX3_safest_98 (fun σ_2 => ?_)
      refine V_aload_n hC dX3_safest_101 rfl ?_
      refine V_aload_n hC dX3_safest_102 rfl ?_
      refine V_iload_n hC dX3_safest_103 rfl ?_
      refine V_iload_n hC dX3_safest_104 rfl ?_
      refine V_cko (fun hm => V_callV_PI (c := 3) (As := [.int v2, .int x1]) (rest := [.ref a0]) (d' := 1) hC dX3_safest_105 2 (lw_V q1783 q1785 qs70 q87 q1786) (by decide +kernel) (List.mem_singleton.mp hm) (by decide) (by decide) rfl rfl rfl (Nat.le_of_ble_eq_true rfl) (Nat.le_trans (by decide) hd) (by decide) vMP_l (fun _ h => c_X3_rocksIn (Nat.le_refl _) h) (fun r_1 => ?_))
      refine V_i2l hC dX3_safest_108 ?_
      refine V_cko (fun hm => V_callV_V (c := 3) (As := [.long (Int32.toInt64 r_1)]) (rest := []) (d' := 0) hC dX3_safest_109 1 (lw_V q1697 q1699 qs59 q87 q1700) (by decide +kernel) (List.mem_singleton.mp hm) (by decide) (by decide) rfl rfl rfl (Nat.le_of_ble_eq_true rfl) (Nat.le_trans (by decide) hd) (by decide) vMP_l (fun _ h => c_X3_enters (Nat.le_refl _) h) (fun σ_3 => ?_))
      refine V_aload_n hC dX3_safest_112 rfl ?_
      refine V_aload_n hC dX3_safest_113 rfl ?_
      refine V_aload_n hC dX3_safest_114 rfl ?_
      refine g_X3_34 hC dX3_safest_115 (fun b => ?_)
      refine V_iconst (v := 1) hC dX3_safest_118 rfl ?_
      refine V_iald hC dX3_safest_119 ?_
      refine V_iload_n hC dX3_safest_120 rfl ?_
      refine V_cko (fun hm => V_callV_PI (c := 3) (As := [.int (gi σ_3 b (Int32.toNatClampNeg 1)), .int x1]) (rest := [.ref a0]) (d' := 1) hC dX3_safest_121 2 (lw_V q1783 q1785 qs70 q87 q1786) (by decide +kernel) (List.mem_singleton.mp hm) (by decide) (by decide) rfl rfl rfl (Nat.le_of_ble_eq_true rfl) (Nat.le_trans (by decide) hd) (by decide) vMP_l (fun _ h => c_X3_rocksIn (Nat.le_refl _) h) (fun r_2 => ?_))
      refine V_i2l hC dX3_safest_124 ?_
      refine V_cko (fun hm => V_callV_V (c := 3) (As := [.long (Int32.toInt64 r_2)]) (rest := []) (d' := 0) hC dX3_safest_125 1 (lw_V q1697 q1699 qs59 q87 q1700) (by decide +kernel) (List.mem_singleton.mp hm) (by decide) (by decide) rfl rfl rfl (Nat.le_of_ble_eq_true rfl) (Nat.le_trans (by decide) hd) (by decide) vMP_l (fun _ h => c_X3_enters (Nat.le_refl _) h) (fun σ_4 => ?_))
      refine V_iload_n hC dX3_safest_128 rfl ?_
      exact V_ireturn dX3_safest_129 rfl rfl
    · intro k hk
      exact (w_X3_safest_23 hd a0 x1 σ_1 k hk) FU 0 1
  · refine V_iconst (v := (-1)) hC dX3_safest_17 rfl ?_
    exact V_ireturn dX3_safest_18 rfl rfl
theorem c_X3_safest {l : Launch} {d : Nat} (hd : 2 ≤ d) {σ : vMem} {a0 : Nat} {x1 : Int32} {r : Int32 × vMem} (h : f_X3_safest σ a0 x1 = some r) : vOk l yX3_safest cX3_safest 6 (some .int) d [.ref a0, .int x1] σ (.inl ((eI).1 r, (eI).2 r)) := V_method (em := eI) [some (.ref a0), some (.int x1), none, none, none, none] (by decide +kernel) rfl (Nat.le_of_ble_eq_true rfl) (w_X3_safest hd σ a0 x1) h
/-! NobodyBeenAftModel.late(I)I -/
def f_X3_late_57 (a0 : Nat) (x1 : Int32) (v2 : Int32) (v3 : Int32) (v4 : Int32) (k : vMem → Int32 → Option (Int32 × vMem)) : Nat → vMem → Int32 → Int32 → Option (Int32 × vMem)
  | 0, _, _, _ => none
  | n_1 + 1, σ_7, v5_1, v6_1 => if x1 ≤ v6_1 then (k σ_7 v5_1) else vl (fun (σ_8 : vMem) (y : Int32) => vl (v6_1 + 1) (fun v6_2 => f_X3_late_57 a0 x1 v2 v3 v4 k n_1 σ_8 y v6_2)) (fun k_1 => vl (fun (σ_9 : vMem) => k_1 σ_9 1) (fun k_2 => if ¬ v5_1 = 0 then (k_2 σ_7) else cko σ_7 a0 [3] (dr (gr σ_7 a0 14) (fun b_1 => cka σ_7 b_1 105 0 (cko σ_7 a0 [3] (bd (f_X3_delayAt σ_7 a0 ((gi σ_7 b_1 (Int32.toNatClampNeg 0)) + v6_1)) (fun r_3 σ_10 => if v4 ≤ (v6_1 + r_3) then (k_1 σ_10 0) else k_2 σ_10)))))))
def f_X3_late_28 (a0 : Nat) (x1 : Int32) : Nat → vMem → Int32 → Int32 → Option (Int32 × vMem)
  | 0, _, _, _ => none
  | n + 1, σ_3, v2, v3 => if x1 ≤ v3 then (some (v2, σ_3)) else cko σ_3 a0 [3] (dr (gr σ_3 a0 14) (fun b => cka σ_3 b 105 0 (cko σ_3 a0 [3] (bd (f_X3_delayAt σ_3 a0 ((gi σ_3 b (Int32.toNatClampNeg 0)) + v3)) (fun r_1 σ_4 => vl (v3 + r_1) (fun v4 => vl (v3 + 1) (fun v6 => vl (fun (σ_5 : vMem) (v5 : Int32) => bp (f_X3_flag σ_5 v5) (fun r_2 => vl (v2 + r_2) (fun v2_1 => cko σ_5 a0 [3] (bv (f_X3_enters σ_5 a0 (Int32.toInt64 v4)) (fun σ_6 => vl (v3 + 1) (fun v3_1 => f_X3_late_28 a0 x1 n σ_6 v2_1 v3_1)))))) (fun k => f_X3_late_57 a0 x1 v2 v3 v4 k FU σ_4 0 v6))))))))
def f_X3_late (σ : vMem) (a0 : Nat) (x1 : Int32) : Option (Int32 × vMem) := cko σ a0 [3] (vl (si σ a0 0 0) (fun σ_1 => bp (f_X3_in σ_1 (Int32.toInt64 x1) 1 30) (fun r => if ¬ r = 0 then (cko σ_1 a0 [3] (vl (si σ_1 a0 1 0) (fun σ_2 => f_X3_late_28 a0 x1 FU σ_2 0 0))) else some ((-1), σ_1))))
abbrev P_X3_late (l : Launch) (d n0 s0 : Nat) : vX → Prop := vMP l yX3_late cX3_late 7 (some .int) d n0 s0
theorem w_X3_late_57 {l : Launch} {d n0 s0 : Nat} (hd : 4 ≤ d) (a0 : Nat) (x1 : Int32) (v2 : Int32) (v3 : Int32) (v4 : Int32) (k : vMem → Int32 → Option (Int32 × vMem)) (hk : ∀ (σ_5 : vMem), ∀ (v5 : Int32), V (P_X3_late l d n0 s0) (vEmb eI) σ_5 102 [some (.ref a0), some (.int x1), some (.int v2), some (.int v3), some (.int v4), some (.int v5), none] [] (k σ_5 v5)) : ∀ (n_1 : Nat) (σ_7 : vMem) (v5_1 : Int32) (v6_1 : Int32), V (P_X3_late l d n0 s0) (vEmb eI) σ_7 57 [some (.ref a0), some (.int x1), some (.int v2), some (.int v3), some (.int v4), some (.int v5_1), some (.int v6_1)] [] (f_X3_late_57 a0 x1 v2 v3 v4 k n_1 σ_7 v5_1 v6_1) := by
  have hC : vPx (P_X3_late l d n0 s0) cX3_late 7 "NobodyBeenAftModel" (some .int) d := vMP_cx
  intro n_1
  induction n_1 with
  | zero =>
    intro σ_7 v5_1 v6_1
    exact V_none
  | succ n_1 ih =>
    intro σ_7 v5_1 v6_1
    refine V_eq (f_X3_late_57.eq_2 ..) ?_
    refine V_iload hC dX3_late_57 rfl ?_
    refine V_iload_n hC dX3_late_59 rfl ?_
    refine V_icmp_ge (tgt := 102) hC dX3_late_60 (by decide) ?_ ?_
    · refine V_clr [6] (ls' := [some (.ref a0), some (.int x1), some (.int v2), some (.int v3), some (.int v4), some (.int v5_1), none]) rfl ?_
      exact hk σ_7 v5_1
    · refine V_iload hC dX3_late_63 rfl ?_
      refine V_let (B := fun k_1 => ∀ (σ_8 : vMem), ∀ (y : Int32), V (P_X3_late l d n0 s0) (vEmb eI) σ_8 94 [some (.ref a0), some (.int x1), some (.int v2), some (.int v3), some (.int v4), none, some (.int v6_1)] [.int y] (k_1 σ_8 y)) ?_ ?_
      · intro σ_8 y
        refine V_istore (ls' := [some (.ref a0), some (.int x1), some (.int v2), some (.int v3), some (.int v4), some (.int y), some (.int v6_1)]) hC dX3_late_94 (by decide) rfl rfl ?_
        refine V_iincL (v := v6_1 + 1) (ls' := fun v6_2 => [some (.ref a0), some (.int x1), some (.int v2), some (.int v3), some (.int v4), some (.int y), some (.int v6_2)]) hC dX3_late_96 rfl (by decide) rfl rfl (fun _ => rfl) (fun v6_2 => ?_)
        refine V_goto (tgt := 57) hC dX3_late_99 (by decide) ?_
        exact ih σ_8 y v6_2
      · intro k_1 hk_1
        refine V_let (B := fun k_2 => ∀ (σ_9 : vMem), V (P_X3_late l d n0 s0) (vEmb eI) σ_9 89 [some (.ref a0), some (.int x1), some (.int v2), some (.int v3), some (.int v4), none, some (.int v6_1)] [] (k_2 σ_9)) ?_ ?_
        · intro σ_9
          refine V_iconst (v := 1) hC dX3_late_89 rfl ?_
          refine V_goto (tgt := 94) hC dX3_late_90 (by decide) ?_
          exact hk_1 σ_9 1
        · intro k_2 hk_2
          refine V_if_ne (tgt := 89) hC dX3_late_65 (by decide) ?_ ?_
          · refine V_clr [5] (ls' := [some (.ref a0), some (.int x1), some (.int v2), some (.int v3), some (.int v4), none, some (.int v6_1)]) rfl ?_
            exact hk_2 σ_7
          · refine V_iload hC dX3_late_68 rfl ?_
            refine V_aload_n hC dX3_late_70 rfl ?_
            refine V_aload_n hC dX3_late_71 rfl ?_
            refine g_X3_34 hC dX3_late_72 (fun b_1 => ?_)
            refine V_iconst (v := 0) hC dX3_late_75 rfl ?_
            refine V_iald hC dX3_late_76 ?_
            refine V_iload hC dX3_late_77 rfl ?_
            refine V_iadd hC dX3_late_79 ?_
            refine V_cko (fun hm => V_callV_I (c := 3) (As := [.int ((gi σ_7 b_1 (Int32.toNatClampNeg 0)) + v6_1)]) (rest := [.int v6_1]) (d' := 3) hC dX3_late_80 1 (lw_V q1621 q1623 qs47 q87 q1624) (by decide +kernel) (List.mem_singleton.mp hm) (by decide) (by decide) rfl rfl rfl (Nat.le_of_ble_eq_true rfl) (Nat.le_trans (by decide) hd) (by decide) vMP_l (fun _ h => c_X3_delayAt (Nat.le_refl _) h) (fun r_3 σ_10 => ?_))
            refine V_iadd hC dX3_late_83 ?_
            refine V_iload hC dX3_late_84 rfl ?_
            refine V_icmp_ge (tgt := 93) hC dX3_late_86 (by decide) ?_ ?_
            · refine V_iconst (v := 0) hC dX3_late_93 rfl ?_
              refine V_clr [5] (ls' := [some (.ref a0), some (.int x1), some (.int v2), some (.int v3), some (.int v4), none, some (.int v6_1)]) rfl ?_
              exact hk_1 σ_10 0
            · refine V_clr [5] (ls' := [some (.ref a0), some (.int x1), some (.int v2), some (.int v3), some (.int v4), none, some (.int v6_1)]) rfl ?_
              exact hk_2 σ_10
theorem w_X3_late_28 {l : Launch} {d n0 s0 : Nat} (hd : 4 ≤ d) (a0 : Nat) (x1 : Int32)  : ∀ (n : Nat) (σ_3 : vMem) (v2 : Int32) (v3 : Int32), V (P_X3_late l d n0 s0) (vEmb eI) σ_3 28 [some (.ref a0), some (.int x1), some (.int v2), some (.int v3), none, none, none] [] (f_X3_late_28 a0 x1 n σ_3 v2 v3) := by
  have hC : vPx (P_X3_late l d n0 s0) cX3_late 7 "NobodyBeenAftModel" (some .int) d := vMP_cx
  intro n
  induction n with
  | zero =>
    intro σ_3 v2 v3
    exact V_none
  | succ n ih =>
    intro σ_3 v2 v3
    refine V_eq (f_X3_late_28.eq_2 ..) ?_
    refine V_iload_n hC dX3_late_28 rfl ?_
    refine V_iload_n hC dX3_late_29 rfl ?_
    refine V_icmp_ge (tgt := 123) hC dX3_late_30 (by decide) ?_ ?_
    · refine V_iload_n hC dX3_late_123 rfl ?_
      exact V_ireturn dX3_late_124 rfl rfl
    · refine V_iload_n hC dX3_late_33 rfl ?_
      refine V_aload_n hC dX3_late_34 rfl ?_
      refine V_aload_n hC dX3_late_35 rfl ?_
      refine g_X3_34 hC dX3_late_36 (fun b => ?_)
      refine V_iconst (v := 0) hC dX3_late_39 rfl ?_
      refine V_iald hC dX3_late_40 ?_
      refine V_iload_n hC dX3_late_41 rfl ?_
      refine V_iadd hC dX3_late_42 ?_
      refine V_cko (fun hm => V_callV_I (c := 3) (As := [.int ((gi σ_3 b (Int32.toNatClampNeg 0)) + v3)]) (rest := [.int v3]) (d' := 3) hC dX3_late_43 1 (lw_V q1621 q1623 qs47 q87 q1624) (by decide +kernel) (List.mem_singleton.mp hm) (by decide) (by decide) rfl rfl rfl (Nat.le_of_ble_eq_true rfl) (Nat.le_trans (by decide) hd) (by decide) vMP_l (fun _ h => c_X3_delayAt (Nat.le_refl _) h) (fun r_1 σ_4 => ?_))
      refine V_iadd hC dX3_late_46 ?_
      refine V_istoreL (ls' := fun v4 => [some (.ref a0), some (.int x1), some (.int v2), some (.int v3), some (.int v4), none, none]) hC dX3_late_47 (by decide) rfl (fun _ => rfl) (fun v4 => ?_)
      refine V_iconst (v := 0) hC dX3_late_49 rfl ?_
      refine V_istore (ls' := [some (.ref a0), some (.int x1), some (.int v2), some (.int v3), some (.int v4), some (.int 0), none]) hC dX3_late_50 (by decide) rfl rfl ?_
      refine V_iload_n hC dX3_late_52 rfl ?_
      refine V_iconst (v := 1) hC dX3_late_53 rfl ?_
      refine V_iadd hC dX3_late_54 ?_
      refine V_istoreL (ls' := fun v6 => [some (.ref a0), some (.int x1), some (.int v2), some (.int v3), some (.int v4), some (.int 0), some (.int v6)]) hC dX3_late_55 (by decide) rfl (fun _ => rfl) (fun v6 => ?_)
      refine V_let (B := fun k => ∀ (σ_5 : vMem), ∀ (v5 : Int32), V (P_X3_late l d n0 s0) (vEmb eI) σ_5 102 [some (.ref a0), some (.int x1), some (.int v2), some (.int v3), some (.int v4), some (.int v5), none] [] (k σ_5 v5)) ?_ ?_
      · intro σ_5 v5
        refine V_iload_n hC dX3_late_102 rfl ?_
        refine V_iload hC dX3_late_103 rfl ?_
        refine V_callS_PI (As := [.int v5]) (rest := [.int v2]) (d' := 0) hC dX3_late_105 1 (lw_S q1478 q1479 q87 q1480) (by decide +kernel) rfl rfl (Nat.le_of_ble_eq_true rfl) (Nat.le_trans (by decide) hd) (by decide) vMP_l (fun _ h => c_X3_flag (Nat.le_refl _) h) (fun r_2 => ?_)
        refine V_iadd hC dX3_late_108 ?_
        refine V_istore_nL (ls' := fun v2_1 => [some (.ref a0), some (.int x1), some (.int v2_1), some (.int v3), some (.int v4), some (.int v5), none]) hC dX3_late_109 (by decide) rfl (fun _ => rfl) (fun v2_1 => ?_)
        refine V_aload_n hC dX3_late_110 rfl ?_
        refine V_iload hC dX3_late_111 rfl ?_
        refine V_i2l hC dX3_late_113 ?_
        refine V_cko (fun hm => V_callV_V (c := 3) (As := [.long (Int32.toInt64 v4)]) (rest := []) (d' := 0) hC dX3_late_114 1 (lw_V q1697 q1699 qs59 q87 q1700) (by decide +kernel) (List.mem_singleton.mp hm) (by decide) (by decide) rfl rfl rfl (Nat.le_of_ble_eq_true rfl) (Nat.le_trans (by decide) hd) (by decide) vMP_l (fun _ h => c_X3_enters (Nat.le_refl _) h) (fun σ_6 => ?_))
        refine V_iincL (v := v3 + 1) (ls' := fun v3_1 => [some (.ref a0), some (.int x1), some (.int v2_1), some (.int v3_1), some (.int v4), some (.int v5), none]) hC dX3_late_117 rfl (by decide) rfl rfl (fun _ => rfl) (fun v3_1 => ?_)
        refine V_goto (tgt := 28) hC dX3_late_120 (by decide) ?_
        refine V_clr [4, 5] (ls' := [some (.ref a0), some (.int x1), some (.int v2_1), some (.int v3_1), none, none, none]) rfl ?_
        exact ih σ_6 v2_1 v3_1
      · intro k hk
        exact (w_X3_late_57 hd a0 x1 v2 v3 v4 k hk) FU σ_4 0 v6
theorem w_X3_late {l : Launch} {d n0 s0 : Nat} (hd : 4 ≤ d) (σ : vMem) (a0 : Nat) (x1 : Int32) : V (P_X3_late l d n0 s0) (vEmb eI) σ 0 [some (.ref a0), some (.int x1), none, none, none, none, none] [] (f_X3_late σ a0 x1) := by
  have hC : vPx (P_X3_late l d n0 s0) cX3_late 7 "NobodyBeenAftModel" (some .int) d := vMP_cx
  refine V_eq (f_X3_late.eq_1 ..) ?_
  refine V_aload_n hC dX3_late_0 rfl ?_
  refine V_iconst (v := 0) hC dX3_late_1 rfl ?_
  refine p_X3_103 hC dX3_late_2 (fun σ_1 => ?_)
  refine V_iload_n hC dX3_late_5 rfl ?_
  refine V_i2l hC dX3_late_6 ?_
  refine V_lconst (v := 1) hC dX3_late_7 rfl ?_
  refine V_ldc2 hC dX3_late_8 q1752 ?_
  refine V_callS_PI (As := [.long (Int32.toInt64 x1), .long 1, .long 30]) (rest := []) (d' := 0) hC dX3_late_11 3 (lw_S q1448 q1449 q87 q1450) (by decide +kernel) rfl rfl (Nat.le_of_ble_eq_true rfl) (Nat.le_trans (by decide) hd) (by decide) vMP_l (fun _ h => c_X3_in (Nat.le_refl _) h) (fun r => ?_)
  refine V_if_ne (tgt := 19) hC dX3_late_14 (by decide) ?_ ?_
  · refine V_aload_n hC dX3_late_19 rfl ?_
    refine V_iconst (v := 0) hC dX3_late_20 rfl ?_
    refine p_X3_110 hC dX3_late_21 (fun σ_2 => ?_)
    refine V_iconst (v := 0) hC dX3_late_24 rfl ?_
    refine V_istore_n (ls' := [some (.ref a0), some (.int x1), some (.int 0), none, none, none, none]) hC dX3_late_25 (by decide) rfl rfl ?_
    refine V_iconst (v := 0) hC dX3_late_26 rfl ?_
    refine V_istore_n (ls' := [some (.ref a0), some (.int x1), some (.int 0), some (.int 0), none, none, none]) hC dX3_late_27 (by decide) rfl rfl ?_
    exact (w_X3_late_28 hd a0 x1) FU σ_2 0 0
  · refine V_iconst (v := (-1)) hC dX3_late_17 rfl ?_
    exact V_ireturn dX3_late_18 rfl rfl
theorem c_X3_late {l : Launch} {d : Nat} (hd : 4 ≤ d) {σ : vMem} {a0 : Nat} {x1 : Int32} {r : Int32 × vMem} (h : f_X3_late σ a0 x1 = some r) : vOk l yX3_late cX3_late 7 (some .int) d [.ref a0, .int x1] σ (.inl ((eI).1 r, (eI).2 r)) := V_method (em := eI) [some (.ref a0), some (.int x1), none, none, none, none, none] (by decide +kernel) rfl (Nat.le_of_ble_eq_true rfl) (w_X3_late hd σ a0 x1) h
/-! NobodyBeenAftModel.comes(I)I -/
def f_X3_comes_56 (a0 : Nat) (σ_2 : vMem) (v2 : Int32) (k : Int32 → Int32 → Option (Int32 × vMem)) : Nat → Int32 → Int32 → Int32 → Option (Int32 × vMem)
  | 0, _, _, _ => none
  | n + 1, v3_1, v4_1, v5 => cko σ_2 a0 [3] (if (gi σ_2 a0 4) ≤ v5 then (k v3_1 v4_1) else cko σ_2 a0 [3] (dr (gr σ_2 a0 9) (fun b_1 => cka σ_2 b_1 105 v5 (vl (fun (y : Int32) => bp (f_X3_flag σ_2 y) (fun r_2 => vl (v3_1 + r_2) (fun v3_2 => cko σ_2 a0 [3] (dr (gr σ_2 a0 9) (fun b_2 => cka σ_2 b_2 105 v5 (vl (fun (y_1 : Int32) => bp (f_X3_flag σ_2 y_1) (fun r_3 => vl (v4_1 + r_3) (fun v4_2 => vl (v5 + 1) (fun v5_1 => f_X3_comes_56 a0 σ_2 v2 k n v3_2 v4_2 v5_1)))) (fun k_2 => vl (k_2 0) (fun k_3 => if v2 < (gi σ_2 b_2 (Int32.toNatClampNeg v5)) then k_3 else cko σ_2 a0 [3] (dr (gr σ_2 a0 10) (fun b_3 => cka σ_2 b_3 101 v5 (if (gi σ_2 b_3 (Int32.toNatClampNeg v5)) = 0 then k_3 else k_2 1))))))))))) (fun k_1 => if v2 < (gi σ_2 b_1 (Int32.toNatClampNeg v5)) then (k_1 0) else k_1 1)))))
def f_X3_comes (σ : vMem) (a0 : Nat) (x1 : Int32) : Option (Int32 × vMem) := cko σ a0 [3] (vl (si σ a0 0 0) (fun σ_1 => bp (f_X3_in σ_1 (Int32.toInt64 x1) 0 12) (fun r => if ¬ r = 0 then (cko σ_1 a0 [3] (cko σ_1 a0 [3] (cko σ_1 a0 [3] (dr (gr σ_1 a0 14) (fun b => cka σ_1 b 105 0 (cko σ_1 a0 [3] (bd (f_X3_delayAt σ_1 a0 (gi σ_1 b (Int32.toNatClampNeg 0))) (fun r_1 σ_2 => ck (¬ r_1 = 0) (vl (imin ((gi σ_1 a0 3) - 1) ((((gi σ_1 a0 3) - 1) * x1) / r_1)) (fun v2 => vl (fun (v3 : Int32) (v4 : Int32) => cko σ_2 a0 [3] (vl (si σ_2 a0 1 0) (fun σ_3 => cko σ_3 a0 [3] (bv (f_X3_enters σ_3 a0 (Int32.toInt64 v3)) (fun σ_4 => cko σ_4 a0 [3] (bv (f_X3_enters σ_4 a0 (Int32.toInt64 (v4 - (v4 / 2) * 2))) (fun σ_5 => some (v2, σ_5)))))))) (fun k => f_X3_comes_56 a0 σ_2 v2 k FU 0 0 0))))))))))) else some ((-1), σ_1))))
abbrev P_X3_comes (l : Launch) (d n0 s0 : Nat) : vX → Prop := vMP l yX3_comes cX3_comes 6 (some .int) d n0 s0
theorem w_X3_comes_56 {l : Launch} {d n0 s0 : Nat} (hd : 4 ≤ d) (a0 : Nat) (σ_2 : vMem) (v2 : Int32) (k : Int32 → Int32 → Option (Int32 × vMem)) (hk : ∀ (v3 : Int32), ∀ (v4 : Int32), V (P_X3_comes l d n0 s0) (vEmb eI) σ_2 127 [some (.ref a0), none, some (.int v2), some (.int v3), some (.int v4), none] [] (k v3 v4)) : ∀ (n : Nat) (v3_1 : Int32) (v4_1 : Int32) (v5 : Int32), V (P_X3_comes l d n0 s0) (vEmb eI) σ_2 56 [some (.ref a0), none, some (.int v2), some (.int v3_1), some (.int v4_1), some (.int v5)] [] (f_X3_comes_56 a0 σ_2 v2 k n v3_1 v4_1 v5) := by
  have hC : vPx (P_X3_comes l d n0 s0) cX3_comes 6 "NobodyBeenAftModel" (some .int) d := vMP_cx
  intro n
  induction n with
  | zero =>
    intro v3_1 v4_1 v5
    exact V_none
  | succ n ih =>
    intro v3_1 v4_1 v5
    refine V_eq (f_X3_comes_56.eq_2 ..) ?_
    refine V_iload hC dX3_comes_56 rfl ?_
    refine V_aload_n hC dX3_comes_58 rfl ?_
    refine g_X3_190 hC dX3_comes_59 ?_
    refine V_icmp_ge (tgt := 127) hC dX3_comes_62 (by decide) ?_ ?_
    · refine V_clr [5] (ls' := [some (.ref a0), none, some (.int v2), some (.int v3_1), some (.int v4_1), none]) rfl ?_
      exact hk v3_1 v4_1
    · refine V_iload_n hC dX3_comes_65 rfl ?_
      refine V_aload_n hC dX3_comes_66 rfl ?_
      refine g_X3_17 hC dX3_comes_67 (fun b_1 => ?_)
      refine V_iload hC dX3_comes_70 rfl ?_
      refine V_iald hC dX3_comes_72 ?_
      refine V_iload_n hC dX3_comes_73 rfl ?_
      refine V_let (B := fun k_1 => ∀ (y : Int32), V (P_X3_comes l d n0 s0) (vEmb eI) σ_2 82 [some (.ref a0), none, some (.int v2), none, some (.int v4_1), some (.int v5)] [.int y, .int v3_1] (k_1 y)) ?_ ?_
      · intro y
        refine V_callS_PI (As := [.int y]) (rest := [.int v3_1]) (d' := 0) hC dX3_comes_82 1 (lw_S q1478 q1479 q87 q1480) (by decide +kernel) rfl rfl (Nat.le_of_ble_eq_true rfl) (Nat.le_trans (by decide) hd) (by decide) vMP_l (fun _ h => c_X3_flag (Nat.le_refl _) h) (fun r_2 => ?_)
        refine V_iadd hC dX3_comes_85 ?_
        refine V_istore_nL (ls' := fun v3_2 => [some (.ref a0), none, some (.int v2), some (.int v3_2), some (.int v4_1), some (.int v5)]) hC dX3_comes_86 (by decide) rfl (fun _ => rfl) (fun v3_2 => ?_)
        refine V_iload hC dX3_comes_87 rfl ?_
        refine V_aload_n hC dX3_comes_89 rfl ?_
        refine g_X3_17 hC dX3_comes_90 (fun b_2 => ?_)
        refine V_iload hC dX3_comes_93 rfl ?_
        refine V_iald hC dX3_comes_95 ?_
        refine V_iload_n hC dX3_comes_96 rfl ?_
        refine V_let (B := fun k_2 => ∀ (y_1 : Int32), V (P_X3_comes l d n0 s0) (vEmb eI) σ_2 115 [some (.ref a0), none, some (.int v2), some (.int v3_2), none, some (.int v5)] [.int y_1, .int v4_1] (k_2 y_1)) ?_ ?_
        · intro y_1
          refine V_callS_PI (As := [.int y_1]) (rest := [.int v4_1]) (d' := 0) hC dX3_comes_115 1 (lw_S q1478 q1479 q87 q1480) (by decide +kernel) rfl rfl (Nat.le_of_ble_eq_true rfl) (Nat.le_trans (by decide) hd) (by decide) vMP_l (fun _ h => c_X3_flag (Nat.le_refl _) h) (fun r_3 => ?_)
          refine V_iadd hC dX3_comes_118 ?_
          refine V_istoreL (ls' := fun v4_2 => [some (.ref a0), none, some (.int v2), some (.int v3_2), some (.int v4_2), some (.int v5)]) hC dX3_comes_119 (by decide) rfl (fun _ => rfl) (fun v4_2 => ?_)
          refine V_iincL (v := v5 + 1) (ls' := fun v5_1 => [some (.ref a0), none, some (.int v2), some (.int v3_2), some (.int v4_2), some (.int v5_1)]) hC dX3_comes_121 rfl (by decide) rfl rfl (fun _ => rfl) (fun v5_1 => ?_)
          refine V_goto (tgt := 56) hC dX3_comes_124 (by decide) ?_
          exact ih v3_2 v4_2 v5_1
        · intro k_2 hk_2
          refine V_let (B := fun k_3 => V (P_X3_comes l d n0 s0) (vEmb eI) σ_2 114 [some (.ref a0), none, some (.int v2), some (.int v3_2), none, some (.int v5)] [.int v4_1] (k_3)) ?_ ?_
          · skip
            refine V_iconst (v := 0) hC dX3_comes_114 rfl ?_
            exact hk_2 0
          · intro k_3 hk_3
            refine V_icmp_gt (tgt := 114) hC dX3_comes_97 (by decide) ?_ ?_
            · refine V_clr [4] (ls' := [some (.ref a0), none, some (.int v2), some (.int v3_2), none, some (.int v5)]) rfl ?_
              exact hk_3
            · refine V_aload_n hC dX3_comes_100 rfl ?_
              refine g_X3_21 hC dX3_comes_101 (fun b_3 => ?_)
              refine V_iload hC dX3_comes_104 rfl ?_
              refine V_zald hC dX3_comes_106 ?_
              refine V_if_eq (tgt := 114) hC dX3_comes_107 (by decide) ?_ ?_
              · refine V_clr [4] (ls' := [some (.ref a0), none, some (.int v2), some (.int v3_2), none, some (.int v5)]) rfl ?_
                exact hk_3
              · refine V_iconst (v := 1) hC dX3_comes_110 rfl ?_
                refine V_goto (tgt := 115) hC dX3_comes_111 (by decide) ?_
                refine V_clr [4] (ls' := [some (.ref a0), none, some (.int v2), some (.int v3_2), none, some (.int v5)]) rfl ?_
                exact hk_2 1
      · intro k_1 hk_1
        refine V_icmp_gt (tgt := 81) hC dX3_comes_74 (by decide) ?_ ?_
        · refine V_iconst (v := 0) hC dX3_comes_81 rfl ?_
          refine V_clr [3] (ls' := [some (.ref a0), none, some (.int v2), none, some (.int v4_1), some (.int v5)]) rfl ?_
          exact hk_1 0
        · refine V_iconst (v := 1) hC dX3_comes_77 rfl ?_
          refine V_goto (tgt := 82) hC dX3_comes_78 (by decide) ?_
          refine V_clr [3] (ls' := [some (.ref a0), none, some (.int v2), none, some (.int v4_1), some (.int v5)]) rfl ?_
          exact hk_1 1
theorem w_X3_comes {l : Launch} {d n0 s0 : Nat} (hd : 4 ≤ d) (σ : vMem) (a0 : Nat) (x1 : Int32) : V (P_X3_comes l d n0 s0) (vEmb eI) σ 0 [some (.ref a0), some (.int x1), none, none, none, none] [] (f_X3_comes σ a0 x1) := by
  have hC : vPx (P_X3_comes l d n0 s0) cX3_comes 6 "NobodyBeenAftModel" (some .int) d := vMP_cx
  refine V_eq (f_X3_comes.eq_1 ..) ?_
  refine V_aload_n hC dX3_comes_0 rfl ?_
  refine V_iconst (v := 0) hC dX3_comes_1 rfl ?_
  refine p_X3_103 hC dX3_comes_2 (fun σ_1 => ?_)
  refine V_iload_n hC dX3_comes_5 rfl ?_
  refine V_i2l hC dX3_comes_6 ?_
  refine V_lconst (v := 0) hC dX3_comes_7 rfl ?_
  refine V_ldc2 hC dX3_comes_8 q1796 ?_
  refine V_callS_PI (As := [.long (Int32.toInt64 x1), .long 0, .long 12]) (rest := []) (d' := 0) hC dX3_comes_11 3 (lw_S q1448 q1449 q87 q1450) (by decide +kernel) rfl rfl (Nat.le_of_ble_eq_true rfl) (Nat.le_trans (by decide) hd) (by decide) vMP_l (fun _ h => c_X3_in (Nat.le_refl _) h) (fun r => ?_)
  refine V_if_ne (tgt := 19) hC dX3_comes_14 (by decide) ?_ ?_
  · refine V_aload_n hC dX3_comes_19 rfl ?_
    refine g_X3_13 hC dX3_comes_20 ?_
    refine V_iconst (v := 1) hC dX3_comes_23 rfl ?_
    refine V_isub hC dX3_comes_24 ?_
    refine V_aload_n hC dX3_comes_25 rfl ?_
    refine g_X3_13 hC dX3_comes_26 ?_
    refine V_iconst (v := 1) hC dX3_comes_29 rfl ?_
    refine V_isub hC dX3_comes_30 ?_
    refine V_iload_n hC dX3_comes_31 rfl ?_
    refine V_imul hC dX3_comes_32 ?_
    refine V_aload_n hC dX3_comes_33 rfl ?_
    refine V_aload_n hC dX3_comes_34 rfl ?_
    refine g_X3_34 hC dX3_comes_35 (fun b => ?_)
    refine V_iconst (v := 0) hC dX3_comes_38 rfl ?_
    refine V_iald hC dX3_comes_39 ?_
    refine V_cko (fun hm => V_callV_I (c := 3) (As := [.int (gi σ_1 b (Int32.toNatClampNeg 0))]) (rest := [.int (((gi σ_1 a0 3) - 1) * x1), .int ((gi σ_1 a0 3) - 1)]) (d' := 3) hC dX3_comes_40 1 (lw_V q1621 q1623 qs47 q87 q1624) (by decide +kernel) (List.mem_singleton.mp hm) (by decide) (by decide) rfl rfl rfl (Nat.le_of_ble_eq_true rfl) (Nat.le_trans (by decide) hd) (by decide) vMP_l (fun _ h => c_X3_delayAt (Nat.le_refl _) h) (fun r_1 σ_2 => ?_))
    refine V_ck (fun h9 => V_idiv hC dX3_comes_43 h9 ?_)
    refine V_mmin hC dX3_comes_44 q1459 q327 q90 q328 (Nat.le_of_ble_eq_true rfl) ?_
    refine V_istore_nL (ls' := fun v2 => [some (.ref a0), some (.int x1), some (.int v2), none, none, none]) hC dX3_comes_47 (by decide) rfl (fun _ => rfl) (fun v2 => ?_)
    refine V_iconst (v := 0) hC dX3_comes_48 rfl ?_
    refine V_istore_n (ls' := [some (.ref a0), some (.int x1), some (.int v2), some (.int 0), none, none]) hC dX3_comes_49 (by decide) rfl rfl ?_
    refine V_iconst (v := 0) hC dX3_comes_50 rfl ?_
    refine V_istore (ls' := [some (.ref a0), some (.int x1), some (.int v2), some (.int 0), some (.int 0), none]) hC dX3_comes_51 (by decide) rfl rfl ?_
    refine V_iconst (v := 0) hC dX3_comes_53 rfl ?_
    refine V_istore (ls' := [some (.ref a0), some (.int x1), some (.int v2), some (.int 0), some (.int 0), some (.int 0)]) hC dX3_comes_54 (by decide) rfl rfl ?_
    refine V_let (B := fun k => ∀ (v3 : Int32), ∀ (v4 : Int32), V (P_X3_comes l d n0 s0) (vEmb eI) σ_2 127 [some (.ref a0), none, some (.int v2), some (.int v3), some (.int v4), none] [] (k v3 v4)) ?_ ?_
    · intro v3 v4
      refine V_aload_n hC dX3_comes_127 rfl ?_
      refine V_iconst (v := 0) hC dX3_comes_128 rfl ?_
      refine p_X3_110 hC dX3_comes_129 (fun σ_3 => ?_)
      refine V_aload_n hC dX3_comes_132 rfl ?_
      refine V_iload_n hC dX3_comes_133 rfl ?_
      refine V_i2l hC dX3_comes_134 ?_
      refine V_cko (fun hm => V_callV_V (c := 3) (As := [.long (Int32.toInt64 v3)]) (rest := []) (d' := 0) hC dX3_comes_135 1 (lw_V q1697 q1699 qs59 q87 q1700) (by decide +kernel) (List.mem_singleton.mp hm) (by decide) (by decide) rfl rfl rfl (Nat.le_of_ble_eq_true rfl) (Nat.le_trans (by decide) hd) (by decide) vMP_l (fun _ h => c_X3_enters (Nat.le_refl _) h) (fun σ_4 => ?_))
      refine V_aload_n hC dX3_comes_138 rfl ?_
      refine V_iload hC dX3_comes_139 rfl ?_
      refine V_iconst (v := 2) hC dX3_comes_141 rfl ?_
      refine V_irem hC dX3_comes_142 (by decide) ?_
      refine V_i2l hC dX3_comes_143 ?_
      refine V_cko (fun hm => V_callV_V (c := 3) (As := [.long (Int32.toInt64 (v4 - (v4 / 2) * 2))]) (rest := []) (d' := 0) hC dX3_comes_144 1 (lw_V q1697 q1699 qs59 q87 q1700) (by decide +kernel) (List.mem_singleton.mp hm) (by decide) (by decide) rfl rfl rfl (Nat.le_of_ble_eq_true rfl) (Nat.le_trans (by decide) hd) (by decide) vMP_l (fun _ h => c_X3_enters (Nat.le_refl _) h) (fun σ_5 => ?_))
      refine V_iload_n hC dX3_comes_147 rfl ?_
      exact V_ireturn dX3_comes_148 rfl rfl
    · intro k hk
      refine V_clr [1] (ls' := [some (.ref a0), none, some (.int v2), some (.int 0), some (.int 0), some (.int 0)]) rfl ?_
      exact (w_X3_comes_56 hd a0 σ_2 v2 k hk) FU 0 0 0
  · refine V_iconst (v := (-1)) hC dX3_comes_17 rfl ?_
    exact V_ireturn dX3_comes_18 rfl rfl
theorem c_X3_comes {l : Launch} {d : Nat} (hd : 4 ≤ d) {σ : vMem} {a0 : Nat} {x1 : Int32} {r : Int32 × vMem} (h : f_X3_comes σ a0 x1 = some r) : vOk l yX3_comes cX3_comes 6 (some .int) d [.ref a0, .int x1] σ (.inl ((eI).1 r, (eI).2 r)) := V_method (em := eI) [some (.ref a0), some (.int x1), none, none, none, none] (by decide +kernel) rfl (Nat.le_of_ble_eq_true rfl) (w_X3_comes hd σ a0 x1) h
/-! NobodyBeenAftModel.postsFor(I)I -/
def f_X3_postsFor (σ : vMem) (a0 : Nat) (x1 : Int32) : Option (Int32) := cko σ a0 [3] (ck (¬ x1 = 0) (some ((((((gi σ a0 3) - 1) + x1) - 1) / x1) - 1)))
abbrev P_X3_postsFor (l : Launch) (d n0 s0 : Nat) : vX → Prop := vMP l yX3_postsFor cX3_postsFor 2 (some .int) d n0 s0
theorem w_X3_postsFor {l : Launch} {d n0 s0 : Nat} (hd : 0 ≤ d) (σ : vMem) (a0 : Nat) (x1 : Int32) : V (P_X3_postsFor l d n0 s0) (vEmb (ePI σ)) σ 0 [some (.ref a0), some (.int x1)] [] (f_X3_postsFor σ a0 x1) := by
  have hC : vPx (P_X3_postsFor l d n0 s0) cX3_postsFor 2 "NobodyBeenAftModel" (some .int) d := vMP_cx
  refine V_eq (f_X3_postsFor.eq_1 ..) ?_
  refine V_aload_n hC dX3_postsFor_0 rfl ?_
  refine g_X3_13 hC dX3_postsFor_1 ?_
  refine V_iconst (v := 1) hC dX3_postsFor_4 rfl ?_
  refine V_isub hC dX3_postsFor_5 ?_
  refine V_iload_n hC dX3_postsFor_6 rfl ?_
  refine V_iadd hC dX3_postsFor_7 ?_
  refine V_iconst (v := 1) hC dX3_postsFor_8 rfl ?_
  refine V_isub hC dX3_postsFor_9 ?_
  refine V_iload_n hC dX3_postsFor_10 rfl ?_
  refine V_ck (fun h9 => V_idiv hC dX3_postsFor_11 h9 ?_)
  refine V_iconst (v := 1) hC dX3_postsFor_12 rfl ?_
  refine V_isub hC dX3_postsFor_13 ?_
  exact V_ireturn dX3_postsFor_14 rfl rfl
theorem c_X3_postsFor {l : Launch} {d : Nat} (hd : 0 ≤ d) {σ : vMem} {a0 : Nat} {x1 : Int32} {r : Int32} (h : f_X3_postsFor σ a0 x1 = some r) : vOk l yX3_postsFor cX3_postsFor 2 (some .int) d [.ref a0, .int x1] σ (.inl (((ePI σ)).1 r, ((ePI σ)).2 r)) := V_method (em := (ePI σ)) [some (.ref a0), some (.int x1)] (by decide +kernel) rfl (Nat.le_of_ble_eq_true rfl) (w_X3_postsFor hd σ a0 x1) h
/-! NobodyBeenAftModel.relay(I)I -/
def f_X3_relay_59 (a0 : Nat) (x1 : Int32) (v2 : Int32) : Nat → vMem → Int32 → Int32 → Option (Int32 × vMem)
  | 0, _, _, _ => none
  | n + 1, σ_3, v3, v4 => if x1 < v4 then (some (v2, σ_3)) else cko σ_3 a0 [3] (vl (imax (v3 + 1) (((gi σ_3 a0 3) - 1) - (v2 * ((x1 - v4) + 1)))) (fun v3_1 => cko σ_3 a0 [3] (bv (f_X3_enters σ_3 a0 (Int32.toInt64 v3_1)) (fun σ_4 => vl (v4 + 1) (fun v4_1 => f_X3_relay_59 a0 x1 v2 n σ_4 v3_1 v4_1)))))
def f_X3_relay_34 (a0 : Nat) (x1 : Int32) (σ_1 : vMem) (k : Int32 → Option (Int32 × vMem)) : Nat → Int32 → Option (Int32 × vMem)
  | 0, _ => none
  | n_1 + 1, v2_1 => cko σ_1 a0 [3] (bp (f_X3_postsFor σ_1 a0 v2_1) (fun r_1 => if r_1 ≤ x1 then (k v2_1) else vl (v2_1 + 1) (fun v2_2 => f_X3_relay_34 a0 x1 σ_1 k n_1 v2_2)))
def f_X3_relay (σ : vMem) (a0 : Nat) (x1 : Int32) : Option (Int32 × vMem) := cko σ a0 [3] (vl (si σ a0 0 0) (fun σ_1 => bp (f_X3_in σ_1 (Int32.toInt64 x1) 0 10) (fun r => if ¬ r = 0 then (cko σ_1 a0 [3] (if x1 ≤ ((gi σ_1 a0 3) - 2) then (vl (fun (v2 : Int32) => cko σ_1 a0 [3] (vl (si σ_1 a0 1 0) (fun σ_2 => f_X3_relay_59 a0 x1 v2 FU σ_2 0 1))) (fun k => f_X3_relay_34 a0 x1 σ_1 k FU 1)) else some ((-2), σ_1))) else some ((-1), σ_1))))
abbrev P_X3_relay (l : Launch) (d n0 s0 : Nat) : vX → Prop := vMP l yX3_relay cX3_relay 5 (some .int) d n0 s0
theorem w_X3_relay_59 {l : Launch} {d n0 s0 : Nat} (hd : 1 ≤ d) (a0 : Nat) (x1 : Int32) (v2 : Int32)  : ∀ (n : Nat) (σ_3 : vMem) (v3 : Int32) (v4 : Int32), V (P_X3_relay l d n0 s0) (vEmb eI) σ_3 59 [some (.ref a0), some (.int x1), some (.int v2), some (.int v3), some (.int v4)] [] (f_X3_relay_59 a0 x1 v2 n σ_3 v3 v4) := by
  have hC : vPx (P_X3_relay l d n0 s0) cX3_relay 5 "NobodyBeenAftModel" (some .int) d := vMP_cx
  intro n
  induction n with
  | zero =>
    intro σ_3 v3 v4
    exact V_none
  | succ n ih =>
    intro σ_3 v3 v4
    refine V_eq (f_X3_relay_59.eq_2 ..) ?_
    refine V_iload hC dX3_relay_59 rfl ?_
    refine V_iload_n hC dX3_relay_61 rfl ?_
    refine V_icmp_gt (tgt := 99) hC dX3_relay_62 (by decide) ?_ ?_
    · refine V_iload_n hC dX3_relay_99 rfl ?_
      exact V_ireturn dX3_relay_100 rfl rfl
    · refine V_iload_n hC dX3_relay_65 rfl ?_
      refine V_iconst (v := 1) hC dX3_relay_66 rfl ?_
      refine V_iadd hC dX3_relay_67 ?_
      refine V_aload_n hC dX3_relay_68 rfl ?_
      refine g_X3_13 hC dX3_relay_69 ?_
      refine V_iconst (v := 1) hC dX3_relay_72 rfl ?_
      refine V_isub hC dX3_relay_73 ?_
      refine V_iload_n hC dX3_relay_74 rfl ?_
      refine V_iload_n hC dX3_relay_75 rfl ?_
      refine V_iload hC dX3_relay_76 rfl ?_
      refine V_isub hC dX3_relay_78 ?_
      refine V_iconst (v := 1) hC dX3_relay_79 rfl ?_
      refine V_iadd hC dX3_relay_80 ?_
      refine V_imul hC dX3_relay_81 ?_
      refine V_isub hC dX3_relay_82 ?_
      refine V_mmax hC dX3_relay_83 q1612 q677 q90 q678 (Nat.le_of_ble_eq_true rfl) ?_
      refine V_istore_nL (ls' := fun v3_1 => [some (.ref a0), some (.int x1), some (.int v2), some (.int v3_1), some (.int v4)]) hC dX3_relay_86 (by decide) rfl (fun _ => rfl) (fun v3_1 => ?_)
      refine V_aload_n hC dX3_relay_87 rfl ?_
      refine V_iload_n hC dX3_relay_88 rfl ?_
      refine V_i2l hC dX3_relay_89 ?_
      refine V_cko (fun hm => V_callV_V (c := 3) (As := [.long (Int32.toInt64 v3_1)]) (rest := []) (d' := 0) hC dX3_relay_90 1 (lw_V q1697 q1699 qs59 q87 q1700) (by decide +kernel) (List.mem_singleton.mp hm) (by decide) (by decide) rfl rfl rfl (Nat.le_of_ble_eq_true rfl) (Nat.le_trans (by decide) hd) (by decide) vMP_l (fun _ h => c_X3_enters (Nat.le_refl _) h) (fun σ_4 => ?_))
      refine V_iincL (v := v4 + 1) (ls' := fun v4_1 => [some (.ref a0), some (.int x1), some (.int v2), some (.int v3_1), some (.int v4_1)]) hC dX3_relay_93 rfl (by decide) rfl rfl (fun _ => rfl) (fun v4_1 => ?_)
      refine V_goto (tgt := 59) hC dX3_relay_96 (by decide) ?_
      exact ih σ_4 v3_1 v4_1
theorem w_X3_relay_34 {l : Launch} {d n0 s0 : Nat} (hd : 1 ≤ d) (a0 : Nat) (x1 : Int32) (σ_1 : vMem) (k : Int32 → Option (Int32 × vMem)) (hk : ∀ (v2 : Int32), V (P_X3_relay l d n0 s0) (vEmb eI) σ_1 49 [some (.ref a0), some (.int x1), some (.int v2), none, none] [] (k v2)) : ∀ (n_1 : Nat) (v2_1 : Int32), V (P_X3_relay l d n0 s0) (vEmb eI) σ_1 34 [some (.ref a0), some (.int x1), some (.int v2_1), none, none] [] (f_X3_relay_34 a0 x1 σ_1 k n_1 v2_1) := by
  have hC : vPx (P_X3_relay l d n0 s0) cX3_relay 5 "NobodyBeenAftModel" (some .int) d := vMP_cx
  intro n_1
  induction n_1 with
  | zero =>
    intro v2_1
    exact V_none
  | succ n_1 ih =>
    intro v2_1
    refine V_eq (f_X3_relay_34.eq_2 ..) ?_
    refine V_aload_n hC dX3_relay_34 rfl ?_
    refine V_iload_n hC dX3_relay_35 rfl ?_
    refine V_cko (fun hm => V_callV_PI (c := 3) (As := [.int v2_1]) (rest := []) (d' := 0) hC dX3_relay_36 1 (lw_V q1802 q1804 qs71 q87 q1805) (by decide +kernel) (List.mem_singleton.mp hm) (by decide) (by decide) rfl rfl rfl (Nat.le_of_ble_eq_true rfl) (Nat.le_trans (by decide) hd) (by decide) vMP_l (fun _ h => c_X3_postsFor (Nat.le_refl _) h) (fun r_1 => ?_))
    refine V_iload_n hC dX3_relay_39 rfl ?_
    refine V_icmp_le (tgt := 49) hC dX3_relay_40 (by decide) ?_ ?_
    · exact hk v2_1
    · refine V_iincL (v := v2_1 + 1) (ls' := fun v2_2 => [some (.ref a0), some (.int x1), some (.int v2_2), none, none]) hC dX3_relay_43 rfl (by decide) rfl rfl (fun _ => rfl) (fun v2_2 => ?_)
      refine V_goto (tgt := 34) hC dX3_relay_46 (by decide) ?_
      exact ih v2_2
theorem w_X3_relay {l : Launch} {d n0 s0 : Nat} (hd : 1 ≤ d) (σ : vMem) (a0 : Nat) (x1 : Int32) : V (P_X3_relay l d n0 s0) (vEmb eI) σ 0 [some (.ref a0), some (.int x1), none, none, none] [] (f_X3_relay σ a0 x1) := by
  have hC : vPx (P_X3_relay l d n0 s0) cX3_relay 5 "NobodyBeenAftModel" (some .int) d := vMP_cx
  refine V_eq (f_X3_relay.eq_1 ..) ?_
  refine V_aload_n hC dX3_relay_0 rfl ?_
  refine V_iconst (v := 0) hC dX3_relay_1 rfl ?_
  refine p_X3_103 hC dX3_relay_2 (fun σ_1 => ?_)
  refine V_iload_n hC dX3_relay_5 rfl ?_
  refine V_i2l hC dX3_relay_6 ?_
  refine V_lconst (v := 0) hC dX3_relay_7 rfl ?_
  refine V_ldc2 hC dX3_relay_8 q1801 ?_
  refine V_callS_PI (As := [.long (Int32.toInt64 x1), .long 0, .long 10]) (rest := []) (d' := 0) hC dX3_relay_11 3 (lw_S q1448 q1449 q87 q1450) (by decide +kernel) rfl rfl (Nat.le_of_ble_eq_true rfl) (Nat.le_trans (by decide) hd) (by decide) vMP_l (fun _ h => c_X3_in (Nat.le_refl _) h) (fun r => ?_)
  refine V_if_ne (tgt := 19) hC dX3_relay_14 (by decide) ?_ ?_
  · refine V_iload_n hC dX3_relay_19 rfl ?_
    refine V_aload_n hC dX3_relay_20 rfl ?_
    refine g_X3_13 hC dX3_relay_21 ?_
    refine V_iconst (v := 2) hC dX3_relay_24 rfl ?_
    refine V_isub hC dX3_relay_25 ?_
    refine V_icmp_le (tgt := 32) hC dX3_relay_26 (by decide) ?_ ?_
    · refine V_iconst (v := 1) hC dX3_relay_32 rfl ?_
      refine V_istore_n (ls' := [some (.ref a0), some (.int x1), some (.int 1), none, none]) hC dX3_relay_33 (by decide) rfl rfl ?_
      refine V_let (B := fun k => ∀ (v2 : Int32), V (P_X3_relay l d n0 s0) (vEmb eI) σ_1 49 [some (.ref a0), some (.int x1), some (.int v2), none, none] [] (k v2)) ?_ ?_
      · intro v2
        refine V_aload_n hC dX3_relay_49 rfl ?_
        refine V_iconst (v := 0) hC dX3_relay_50 rfl ?_
        refine p_X3_110 hC dX3_relay_51 (fun σ_2 => ?_)
        refine V_iconst (v := 0) hC dX3_relay_54 rfl ?_
        refine V_istore_n (ls' := [some (.ref a0), some (.int x1), some (.int v2), some (.int 0), none]) hC dX3_relay_55 (by decide) rfl rfl ?_
        refine V_iconst (v := 1) hC dX3_relay_56 rfl ?_
        refine V_istore (ls' := [some (.ref a0), some (.int x1), some (.int v2), some (.int 0), some (.int 1)]) hC dX3_relay_57 (by decide) rfl rfl ?_
        exact (w_X3_relay_59 hd a0 x1 v2) FU σ_2 0 1
      · intro k hk
        exact (w_X3_relay_34 hd a0 x1 σ_1 k hk) FU 1
    · refine V_bipush (v := (-2)) hC dX3_relay_29 rfl ?_
      exact V_ireturn dX3_relay_31 rfl rfl
  · refine V_iconst (v := (-1)) hC dX3_relay_17 rfl ?_
    exact V_ireturn dX3_relay_18 rfl rfl
theorem c_X3_relay {l : Launch} {d : Nat} (hd : 1 ≤ d) {σ : vMem} {a0 : Nat} {x1 : Int32} {r : Int32 × vMem} (h : f_X3_relay σ a0 x1 = some r) : vOk l yX3_relay cX3_relay 5 (some .int) d [.ref a0, .int x1] σ (.inl ((eI).1 r, (eI).2 r)) := V_method (em := eI) [some (.ref a0), some (.int x1), none, none, none] (by decide +kernel) rfl (Nat.le_of_ble_eq_true rfl) (w_X3_relay hd σ a0 x1) h
/-! NobodyBeenAftModel.fewest(I)I -/
def f_X3_fewest (σ : vMem) (a0 : Nat) (x1 : Int32) : Option (Int32 × vMem) := cko σ a0 [3] (vl (si σ a0 0 0) (fun σ_1 => bp (f_X3_in σ_1 (Int32.toInt64 x1) 1 39) (fun r => if r = 0 then (some ((-1), σ_1)) else cko σ_1 a0 [3] (bp (f_X3_postsFor σ_1 a0 x1) (fun r_1 => some (r_1, σ_1))))))
abbrev P_X3_fewest (l : Launch) (d n0 s0 : Nat) : vX → Prop := vMP l yX3_fewest cX3_fewest 2 (some .int) d n0 s0
theorem w_X3_fewest {l : Launch} {d n0 s0 : Nat} (hd : 1 ≤ d) (σ : vMem) (a0 : Nat) (x1 : Int32) : V (P_X3_fewest l d n0 s0) (vEmb eI) σ 0 [some (.ref a0), some (.int x1)] [] (f_X3_fewest σ a0 x1) := by
  have hC : vPx (P_X3_fewest l d n0 s0) cX3_fewest 2 "NobodyBeenAftModel" (some .int) d := vMP_cx
  refine V_eq (f_X3_fewest.eq_1 ..) ?_
  refine V_aload_n hC dX3_fewest_0 rfl ?_
  refine V_iconst (v := 0) hC dX3_fewest_1 rfl ?_
  refine p_X3_103 hC dX3_fewest_2 (fun σ_1 => ?_)
  refine V_iload_n hC dX3_fewest_5 rfl ?_
  refine V_i2l hC dX3_fewest_6 ?_
  refine V_lconst (v := 1) hC dX3_fewest_7 rfl ?_
  refine V_ldc2 hC dX3_fewest_8 q1810 ?_
  refine V_callS_PI (As := [.long (Int32.toInt64 x1), .long 1, .long 39]) (rest := []) (d' := 0) hC dX3_fewest_11 3 (lw_S q1448 q1449 q87 q1450) (by decide +kernel) rfl rfl (Nat.le_of_ble_eq_true rfl) (Nat.le_trans (by decide) hd) (by decide) vMP_l (fun _ h => c_X3_in (Nat.le_refl _) h) (fun r => ?_)
  refine V_if_eq (tgt := 25) hC dX3_fewest_14 (by decide) ?_ ?_
  · refine V_iconst (v := (-1)) hC dX3_fewest_25 rfl ?_
    exact V_ireturn dX3_fewest_26 rfl rfl
  · refine V_aload_n hC dX3_fewest_17 rfl ?_
    refine V_iload_n hC dX3_fewest_18 rfl ?_
    refine V_cko (fun hm => V_callV_PI (c := 3) (As := [.int x1]) (rest := []) (d' := 0) hC dX3_fewest_19 1 (lw_V q1802 q1804 qs71 q87 q1805) (by decide +kernel) (List.mem_singleton.mp hm) (by decide) (by decide) rfl rfl rfl (Nat.le_of_ble_eq_true rfl) (Nat.le_trans (by decide) hd) (by decide) vMP_l (fun _ h => c_X3_postsFor (Nat.le_refl _) h) (fun r_1 => ?_))
    refine V_goto (tgt := 26) hC dX3_fewest_22 (by decide) ?_
    exact V_ireturn dX3_fewest_26 rfl rfl
theorem c_X3_fewest {l : Launch} {d : Nat} (hd : 1 ≤ d) {σ : vMem} {a0 : Nat} {x1 : Int32} {r : Int32 × vMem} (h : f_X3_fewest σ a0 x1 = some r) : vOk l yX3_fewest cX3_fewest 2 (some .int) d [.ref a0, .int x1] σ (.inl ((eI).1 r, (eI).2 r)) := V_method (em := eI) [some (.ref a0), some (.int x1)] (by decide +kernel) rfl (Nat.le_of_ble_eq_true rfl) (w_X3_fewest hd σ a0 x1) h
/-! NobodyBeenAftModel.bets(II)V -/
def f_X3_bets_81 (a0 : Nat) (x1 : Int32) (x2 : Int32) (σ_4 : vMem) (v3 : Int32) (k_2 : Int64 → Option (vMem)) : Nat → Int64 → Int32 → Option (vMem)
  | 0, _, _ => none
  | n_1 + 1, v4_2, v6 => if x1 ≤ v6 then (k_2 v4_2) else vl (fun (y : Int64) => vl (v4_2 * y) (fun v4_3 => vl (v6 + 1) (fun v6_1 => f_X3_bets_81 a0 x1 x2 σ_4 v3 k_2 n_1 v4_3 v6_1))) (fun k_3 => if v3 ≤ v6 then (k_3 (Int32.toInt64 (10 - x2))) else k_3 (Int32.toInt64 x2))
def f_X3_bets_50 (a0 : Nat) (x1 : Int32) (x2 : Int32) (σ_4 : vMem) (v3 : Int32) (k_1 : Int64 → Option (vMem)) : Nat → Int64 → Int32 → Option (vMem)
  | 0, _, _ => none
  | n_2 + 1, v4_4, v6_2 => if v3 ≤ v6_2 then (k_1 v4_4) else ck (¬ (Int32.toInt64 (v6_2 + 1)) = 0) (vl ((v4_4 * (Int32.toInt64 (x1 - v6_2))) / (Int32.toInt64 (v6_2 + 1))) (fun v4_5 => vl (v6_2 + 1) (fun v6_3 => f_X3_bets_50 a0 x1 x2 σ_4 v3 k_1 n_2 v4_5 v6_3)))
def f_X3_bets_37 (a0 : Nat) (x1 : Int32) (x2 : Int32) : Nat → vMem → Int32 → Option (vMem)
  | 0, _, _ => none
  | n + 1, σ_4, v3 => if x1 ≤ (2 * v3) then (some σ_4) else vl (fun (v4 : Int64) => vl (fun (v4_1 : Int64) => cko σ_4 a0 [3] (cko σ_4 a0 [3] (vl (sl σ_4 a0 39 ((gl σ_4 a0 39) + v4_1)) (fun σ_5 => vl (v3 + 1) (fun v3_1 => f_X3_bets_37 a0 x1 x2 n σ_5 v3_1))))) (fun k_2 => f_X3_bets_81 a0 x1 x2 σ_4 v3 k_2 FU v4 0)) (fun k_1 => f_X3_bets_50 a0 x1 x2 σ_4 v3 k_1 FU 1 0)
def f_X3_bets_12 (a0 : Nat) (x1 : Int32) (x2 : Int32) (k : vMem → Option (vMem)) : Nat → vMem → Int32 → Option (vMem)
  | 0, _, _ => none
  | n_3 + 1, σ_6, v3_2 => if x1 ≤ v3_2 then (k σ_6) else cko σ_6 a0 [3] (cko σ_6 a0 [3] (vl (sl σ_6 a0 40 ((gl σ_6 a0 40) * 10)) (fun σ_7 => vl (v3_2 + 1) (fun v3_3 => f_X3_bets_12 a0 x1 x2 k n_3 σ_7 v3_3))))
def f_X3_bets (σ : vMem) (a0 : Nat) (x1 : Int32) (x2 : Int32) : Option (vMem) := cko σ a0 [3] (vl (sl σ a0 39 0) (fun σ_1 => cko σ_1 a0 [3] (vl (sl σ_1 a0 40 1) (fun σ_2 => vl (fun (σ_3 : vMem) => f_X3_bets_37 a0 x1 x2 FU σ_3 0) (fun k => f_X3_bets_12 a0 x1 x2 k FU σ_2 0)))))
abbrev P_X3_bets (l : Launch) (d n0 s0 : Nat) : vX → Prop := vMP l yX3_bets cX3_bets 7 none d n0 s0
theorem w_X3_bets_81 {l : Launch} {d n0 s0 : Nat} (hd : 0 ≤ d) (a0 : Nat) (x1 : Int32) (x2 : Int32) (σ_4 : vMem) (v3 : Int32) (k_2 : Int64 → Option (vMem)) (hk_2 : ∀ (v4_1 : Int64), V (P_X3_bets l d n0 s0) (vEmb eV) σ_4 114 [some (.ref a0), some (.int x1), some (.int x2), some (.int v3), some (.long v4_1), none, none] [] (k_2 v4_1)) : ∀ (n_1 : Nat) (v4_2 : Int64) (v6 : Int32), V (P_X3_bets l d n0 s0) (vEmb eV) σ_4 81 [some (.ref a0), some (.int x1), some (.int x2), some (.int v3), some (.long v4_2), none, some (.int v6)] [] (f_X3_bets_81 a0 x1 x2 σ_4 v3 k_2 n_1 v4_2 v6) := by
  have hC : vPx (P_X3_bets l d n0 s0) cX3_bets 7 "NobodyBeenAftModel" none d := vMP_cx
  intro n_1
  induction n_1 with
  | zero =>
    intro v4_2 v6
    exact V_none
  | succ n_1 ih =>
    intro v4_2 v6
    refine V_eq (f_X3_bets_81.eq_2 ..) ?_
    refine V_iload hC dX3_bets_81 rfl ?_
    refine V_iload_n hC dX3_bets_83 rfl ?_
    refine V_icmp_ge (tgt := 114) hC dX3_bets_84 (by decide) ?_ ?_
    · refine V_clr [6] (ls' := [some (.ref a0), some (.int x1), some (.int x2), some (.int v3), some (.long v4_2), none, none]) rfl ?_
      exact hk_2 v4_2
    · refine V_lload hC dX3_bets_87 rfl ?_
      refine V_iload hC dX3_bets_89 rfl ?_
      refine V_iload_n hC dX3_bets_91 rfl ?_
      refine V_let (B := fun k_3 => ∀ (y : Int64), V (P_X3_bets l d n0 s0) (vEmb eV) σ_4 105 [some (.ref a0), some (.int x1), some (.int x2), some (.int v3), none, none, some (.int v6)] [.long y, .long v4_2] (k_3 y)) ?_ ?_
      · intro y
        refine V_lmul hC dX3_bets_105 ?_
        refine V_lstoreL (ls' := fun v4_3 => [some (.ref a0), some (.int x1), some (.int x2), some (.int v3), some (.long v4_3), none, some (.int v6)]) hC dX3_bets_106 (by decide) rfl (fun _ => rfl) (fun v4_3 => ?_)
        refine V_iincL (v := v6 + 1) (ls' := fun v6_1 => [some (.ref a0), some (.int x1), some (.int x2), some (.int v3), some (.long v4_3), none, some (.int v6_1)]) hC dX3_bets_108 rfl (by decide) rfl rfl (fun _ => rfl) (fun v6_1 => ?_)
        refine V_goto (tgt := 81) hC dX3_bets_111 (by decide) ?_
        exact ih v4_3 v6_1
      · intro k_3 hk_3
        refine V_icmp_ge (tgt := 100) hC dX3_bets_92 (by decide) ?_ ?_
        · refine V_bipush (v := 10) hC dX3_bets_100 rfl ?_
          refine V_iload_n hC dX3_bets_102 rfl ?_
          refine V_isub hC dX3_bets_103 ?_
          refine V_i2l hC dX3_bets_104 ?_
          refine V_clr [4] (ls' := [some (.ref a0), some (.int x1), some (.int x2), some (.int v3), none, none, some (.int v6)]) rfl ?_
          exact hk_3 (Int32.toInt64 (10 - x2))
        · refine V_iload_n hC dX3_bets_95 rfl ?_
          refine V_i2l hC dX3_bets_96 ?_
          refine V_goto (tgt := 105) hC dX3_bets_97 (by decide) ?_
          refine V_clr [4] (ls' := [some (.ref a0), some (.int x1), some (.int x2), some (.int v3), none, none, some (.int v6)]) rfl ?_
          exact hk_3 (Int32.toInt64 x2)
theorem w_X3_bets_50 {l : Launch} {d n0 s0 : Nat} (hd : 0 ≤ d) (a0 : Nat) (x1 : Int32) (x2 : Int32) (σ_4 : vMem) (v3 : Int32) (k_1 : Int64 → Option (vMem)) (hk_1 : ∀ (v4 : Int64), V (P_X3_bets l d n0 s0) (vEmb eV) σ_4 78 [some (.ref a0), some (.int x1), some (.int x2), some (.int v3), some (.long v4), none, none] [] (k_1 v4)) : ∀ (n_2 : Nat) (v4_4 : Int64) (v6_2 : Int32), V (P_X3_bets l d n0 s0) (vEmb eV) σ_4 50 [some (.ref a0), some (.int x1), some (.int x2), some (.int v3), some (.long v4_4), none, some (.int v6_2)] [] (f_X3_bets_50 a0 x1 x2 σ_4 v3 k_1 n_2 v4_4 v6_2) := by
  have hC : vPx (P_X3_bets l d n0 s0) cX3_bets 7 "NobodyBeenAftModel" none d := vMP_cx
  intro n_2
  induction n_2 with
  | zero =>
    intro v4_4 v6_2
    exact V_none
  | succ n_2 ih =>
    intro v4_4 v6_2
    refine V_eq (f_X3_bets_50.eq_2 ..) ?_
    refine V_iload hC dX3_bets_50 rfl ?_
    refine V_iload_n hC dX3_bets_52 rfl ?_
    refine V_icmp_ge (tgt := 78) hC dX3_bets_53 (by decide) ?_ ?_
    · refine V_clr [6] (ls' := [some (.ref a0), some (.int x1), some (.int x2), some (.int v3), some (.long v4_4), none, none]) rfl ?_
      exact hk_1 v4_4
    · refine V_lload hC dX3_bets_56 rfl ?_
      refine V_iload_n hC dX3_bets_58 rfl ?_
      refine V_iload hC dX3_bets_59 rfl ?_
      refine V_isub hC dX3_bets_61 ?_
      refine V_i2l hC dX3_bets_62 ?_
      refine V_lmul hC dX3_bets_63 ?_
      refine V_iload hC dX3_bets_64 rfl ?_
      refine V_iconst (v := 1) hC dX3_bets_66 rfl ?_
      refine V_iadd hC dX3_bets_67 ?_
      refine V_i2l hC dX3_bets_68 ?_
      refine V_ck (fun h9 => V_ldiv hC dX3_bets_69 h9 ?_)
      refine V_lstoreL (ls' := fun v4_5 => [some (.ref a0), some (.int x1), some (.int x2), some (.int v3), some (.long v4_5), none, some (.int v6_2)]) hC dX3_bets_70 (by decide) rfl (fun _ => rfl) (fun v4_5 => ?_)
      refine V_iincL (v := v6_2 + 1) (ls' := fun v6_3 => [some (.ref a0), some (.int x1), some (.int x2), some (.int v3), some (.long v4_5), none, some (.int v6_3)]) hC dX3_bets_72 rfl (by decide) rfl rfl (fun _ => rfl) (fun v6_3 => ?_)
      refine V_goto (tgt := 50) hC dX3_bets_75 (by decide) ?_
      exact ih v4_5 v6_3
theorem w_X3_bets_37 {l : Launch} {d n0 s0 : Nat} (hd : 0 ≤ d) (a0 : Nat) (x1 : Int32) (x2 : Int32)  : ∀ (n : Nat) (σ_4 : vMem) (v3 : Int32), V (P_X3_bets l d n0 s0) (vEmb eV) σ_4 37 [some (.ref a0), some (.int x1), some (.int x2), some (.int v3), none, none, none] [] (f_X3_bets_37 a0 x1 x2 n σ_4 v3) := by
  have hC : vPx (P_X3_bets l d n0 s0) cX3_bets 7 "NobodyBeenAftModel" none d := vMP_cx
  intro n
  induction n with
  | zero =>
    intro σ_4 v3
    exact V_none
  | succ n ih =>
    intro σ_4 v3
    refine V_eq (f_X3_bets_37.eq_2 ..) ?_
    refine V_iconst (v := 2) hC dX3_bets_37 rfl ?_
    refine V_iload_n hC dX3_bets_38 rfl ?_
    refine V_imul hC dX3_bets_39 ?_
    refine V_iload_n hC dX3_bets_40 rfl ?_
    refine V_icmp_ge (tgt := 131) hC dX3_bets_41 (by decide) ?_ ?_
    · exact V_return dX3_bets_131 rfl rfl
    · refine V_lconst (v := 1) hC dX3_bets_44 rfl ?_
      refine V_lstore (ls' := [some (.ref a0), some (.int x1), some (.int x2), some (.int v3), some (.long 1), none, none]) hC dX3_bets_45 (by decide) rfl rfl ?_
      refine V_iconst (v := 0) hC dX3_bets_47 rfl ?_
      refine V_istore (ls' := [some (.ref a0), some (.int x1), some (.int x2), some (.int v3), some (.long 1), none, some (.int 0)]) hC dX3_bets_48 (by decide) rfl rfl ?_
      refine V_let (B := fun k_1 => ∀ (v4 : Int64), V (P_X3_bets l d n0 s0) (vEmb eV) σ_4 78 [some (.ref a0), some (.int x1), some (.int x2), some (.int v3), some (.long v4), none, none] [] (k_1 v4)) ?_ ?_
      · intro v4
        refine V_iconst (v := 0) hC dX3_bets_78 rfl ?_
        refine V_istore (ls' := [some (.ref a0), some (.int x1), some (.int x2), some (.int v3), some (.long v4), none, some (.int 0)]) hC dX3_bets_79 (by decide) rfl rfl ?_
        refine V_let (B := fun k_2 => ∀ (v4_1 : Int64), V (P_X3_bets l d n0 s0) (vEmb eV) σ_4 114 [some (.ref a0), some (.int x1), some (.int x2), some (.int v3), some (.long v4_1), none, none] [] (k_2 v4_1)) ?_ ?_
        · intro v4_1
          refine V_aload_n hC dX3_bets_114 rfl ?_
          refine V_dup hC dX3_bets_115 rfl ?_
          refine g_X3_382 hC dX3_bets_116 ?_
          refine V_lload hC dX3_bets_119 rfl ?_
          refine V_ladd hC dX3_bets_121 ?_
          refine p_X3_382 hC dX3_bets_122 (fun σ_5 => ?_)
          refine V_iincL (v := v3 + 1) (ls' := fun v3_1 => [some (.ref a0), some (.int x1), some (.int x2), some (.int v3_1), some (.long v4_1), none, none]) hC dX3_bets_125 rfl (by decide) rfl rfl (fun _ => rfl) (fun v3_1 => ?_)
          refine V_goto (tgt := 37) hC dX3_bets_128 (by decide) ?_
          refine V_clr [4] (ls' := [some (.ref a0), some (.int x1), some (.int x2), some (.int v3_1), none, none, none]) rfl ?_
          exact ih σ_5 v3_1
        · intro k_2 hk_2
          exact (w_X3_bets_81 hd a0 x1 x2 σ_4 v3 k_2 hk_2) FU v4 0
      · intro k_1 hk_1
        exact (w_X3_bets_50 hd a0 x1 x2 σ_4 v3 k_1 hk_1) FU 1 0
theorem w_X3_bets_12 {l : Launch} {d n0 s0 : Nat} (hd : 0 ≤ d) (a0 : Nat) (x1 : Int32) (x2 : Int32) (k : vMem → Option (vMem)) (hk : ∀ (σ_3 : vMem), V (P_X3_bets l d n0 s0) (vEmb eV) σ_3 35 [some (.ref a0), some (.int x1), some (.int x2), none, none, none, none] [] (k σ_3)) : ∀ (n_3 : Nat) (σ_6 : vMem) (v3_2 : Int32), V (P_X3_bets l d n0 s0) (vEmb eV) σ_6 12 [some (.ref a0), some (.int x1), some (.int x2), some (.int v3_2), none, none, none] [] (f_X3_bets_12 a0 x1 x2 k n_3 σ_6 v3_2) := by
  have hC : vPx (P_X3_bets l d n0 s0) cX3_bets 7 "NobodyBeenAftModel" none d := vMP_cx
  intro n_3
  induction n_3 with
  | zero =>
    intro σ_6 v3_2
    exact V_none
  | succ n_3 ih =>
    intro σ_6 v3_2
    refine V_eq (f_X3_bets_12.eq_2 ..) ?_
    refine V_iload_n hC dX3_bets_12 rfl ?_
    refine V_iload_n hC dX3_bets_13 rfl ?_
    refine V_icmp_ge (tgt := 35) hC dX3_bets_14 (by decide) ?_ ?_
    · refine V_clr [3] (ls' := [some (.ref a0), some (.int x1), some (.int x2), none, none, none, none]) rfl ?_
      exact hk σ_6
    · refine V_aload_n hC dX3_bets_17 rfl ?_
      refine V_dup hC dX3_bets_18 rfl ?_
      refine g_X3_386 hC dX3_bets_19 ?_
      refine V_ldc2 hC dX3_bets_22 q1801 ?_
      refine V_lmul hC dX3_bets_25 ?_
      refine p_X3_386 hC dX3_bets_26 (fun σ_7 => ?_)
      refine V_iincL (v := v3_2 + 1) (ls' := fun v3_3 => [some (.ref a0), some (.int x1), some (.int x2), some (.int v3_3), none, none, none]) hC dX3_bets_29 rfl (by decide) rfl rfl (fun _ => rfl) (fun v3_3 => ?_)
      refine V_goto (tgt := 12) hC dX3_bets_32 (by decide) ?_
      exact ih σ_7 v3_3
theorem w_X3_bets {l : Launch} {d n0 s0 : Nat} (hd : 0 ≤ d) (σ : vMem) (a0 : Nat) (x1 : Int32) (x2 : Int32) : V (P_X3_bets l d n0 s0) (vEmb eV) σ 0 [some (.ref a0), some (.int x1), some (.int x2), none, none, none, none] [] (f_X3_bets σ a0 x1 x2) := by
  have hC : vPx (P_X3_bets l d n0 s0) cX3_bets 7 "NobodyBeenAftModel" none d := vMP_cx
  refine V_eq (f_X3_bets.eq_1 ..) ?_
  refine V_aload_n hC dX3_bets_0 rfl ?_
  refine V_lconst (v := 0) hC dX3_bets_1 rfl ?_
  refine p_X3_382 hC dX3_bets_2 (fun σ_1 => ?_)
  refine V_aload_n hC dX3_bets_5 rfl ?_
  refine V_lconst (v := 1) hC dX3_bets_6 rfl ?_
  refine p_X3_386 hC dX3_bets_7 (fun σ_2 => ?_)
  refine V_iconst (v := 0) hC dX3_bets_10 rfl ?_
  refine V_istore_n (ls' := [some (.ref a0), some (.int x1), some (.int x2), some (.int 0), none, none, none]) hC dX3_bets_11 (by decide) rfl rfl ?_
  refine V_let (B := fun k => ∀ (σ_3 : vMem), V (P_X3_bets l d n0 s0) (vEmb eV) σ_3 35 [some (.ref a0), some (.int x1), some (.int x2), none, none, none, none] [] (k σ_3)) ?_ ?_
  · intro σ_3
    refine V_iconst (v := 0) hC dX3_bets_35 rfl ?_
    refine V_istore_n (ls' := [some (.ref a0), some (.int x1), some (.int x2), some (.int 0), none, none, none]) hC dX3_bets_36 (by decide) rfl rfl ?_
    exact (w_X3_bets_37 hd a0 x1 x2) FU σ_3 0
  · intro k hk
    exact (w_X3_bets_12 hd a0 x1 x2 k hk) FU σ_2 0
theorem c_X3_bets {l : Launch} {d : Nat} (hd : 0 ≤ d) {σ : vMem} {a0 : Nat} {x1 : Int32} {x2 : Int32} {r : vMem} (h : f_X3_bets σ a0 x1 x2 = some r) : vOk l yX3_bets cX3_bets 7 none d [.ref a0, .int x1, .int x2] σ (.inl ((eV).1 r, (eV).2 r)) := V_method (em := eV) [some (.ref a0), some (.int x1), some (.int x2), none, none, none, none] (by decide +kernel) rfl (Nat.le_of_ble_eq_true rfl) (w_X3_bets hd σ a0 x1 x2) h
/-! NobodyBeenAftModel.common(JJ)J -/
def f_X3_common_b (th : vMem → Int64 → Int64 → Option Int64) (σ : vMem) (x0 : Int64) (x2 : Int64) : Option (Int64) := if ¬ (lg_cmp x2 0) = 0 then (ck (¬ x2 = 0) (bp (th σ x2 (x0 - (x0 / x2) * x2)) (fun r => some r))) else some x0
abbrev P_X3_common (l : Launch) (d n0 s0 : Nat) : vX → Prop := vMP l yX3_common cX3_common 4 (some .long) d n0 s0
theorem w_X3_common {l : Launch} {d n0 s0 : Nat} (hd : 0 ≤ d) (th : vMem → Int64 → Int64 → Option Int64) {d1 : Nat} (hd1 : d1 + 1 ≤ d) (hth : ∀ {σ : vMem} {x0 x2 r : Int64}, th σ x0 x2 = some r → vOk l yX3_common cX3_common 4 (some .long) d1 [.long x0, .long x2] σ (.inl ((ePL σ).1 r, (ePL σ).2 r))) (σ : vMem) (x0 : Int64) (x2 : Int64) : V (P_X3_common l d n0 s0) (vEmb (ePL σ)) σ 0 [some (.long x0), none, some (.long x2), none] [] (f_X3_common_b th σ x0 x2) := by
  have hC : vPx (P_X3_common l d n0 s0) cX3_common 4 "NobodyBeenAftModel" (some .long) d := vMP_cx
  refine V_eq (f_X3_common_b.eq_1 ..) ?_
  refine V_lload_n hC dX3_common_0 rfl ?_
  refine V_lconst (v := 0) hC dX3_common_1 rfl ?_
  refine V_lcmp hC dX3_common_2 ?_
  refine V_if_ne (tgt := 10) hC dX3_common_3 (by decide) ?_ ?_
  · refine V_lload_n hC dX3_common_10 rfl ?_
    refine V_lload_n hC dX3_common_11 rfl ?_
    refine V_lload_n hC dX3_common_12 rfl ?_
    refine V_ck (fun h9 => V_lrem hC dX3_common_13 h9 ?_)
    refine V_callS_PL (As := [.long x2, .long (x0 - (x0 / x2) * x2)]) (rest := []) (d' := d1) hC dX3_common_14 2 (lw_S q1824 q1825 q87 q1826) (by decide +kernel) rfl rfl (Nat.le_of_ble_eq_true rfl) hd1 (by decide) vMP_l (fun _ h => hth h) (fun r => ?_)
    exact V_lreturn dX3_common_17 rfl rfl
  · refine V_lload_n hC dX3_common_6 rfl ?_
    refine V_goto (tgt := 17) hC dX3_common_7 (by decide) ?_
    exact V_lreturn dX3_common_17 rfl rfl
theorem c_X3_common_b {l : Launch} {d : Nat} (hd : 0 ≤ d) (th : vMem → Int64 → Int64 → Option Int64) {d1 : Nat} (hd1 : d1 + 1 ≤ d) (hth : ∀ {σ : vMem} {x0 x2 r : Int64}, th σ x0 x2 = some r → vOk l yX3_common cX3_common 4 (some .long) d1 [.long x0, .long x2] σ (.inl ((ePL σ).1 r, (ePL σ).2 r))) {σ : vMem} {x0 : Int64} {x2 : Int64} {r : Int64} (h : f_X3_common_b th σ x0 x2 = some r) : vOk l yX3_common cX3_common 4 (some .long) d [.long x0, .long x2] σ (.inl (((ePL σ)).1 r, ((ePL σ)).2 r)) := V_method (em := (ePL σ)) [some (.long x0), none, some (.long x2), none] (by decide +kernel) rfl (Nat.le_of_ble_eq_true rfl) (w_X3_common hd th hd1 hth σ x0 x2) h
def f_X3_common : Nat → vMem → Int64 → Int64 → Option Int64
  | 0, _, _, _ => none
  | n + 1, σ, x0, x2 => f_X3_common_b (f_X3_common n) σ x0 x2
theorem c_X3_common {l : Launch} : ∀ {n d : Nat}, n ≤ d → ∀ {σ : vMem} {x0 x2 r : Int64}, f_X3_common n σ x0 x2 = some r → vOk l yX3_common cX3_common 4 (some .long) d [.long x0, .long x2] σ (.inl ((ePL σ).1 r, (ePL σ).2 r)) := by
  intro n
  induction n with
  | zero => intro d hd σ x0 x2 r h; cases h
  | succ n ih => intro d hd σ x0 x2 r h; exact c_X3_common_b (d1 := n) (Nat.zero_le _) _ hd (fun h => ih (Nat.le_refl n) h) h
