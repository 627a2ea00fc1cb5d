/-! MACHINE HALF, printed by gen/build.py: terms (f_), walks (w_), contracts (c_) -/
set_option maxRecDepth 100000
/-! NobodyBeenAft.voyage()I -/
def f_X1_voyage_49 (a0 : Nat) (b : Nat) (k : vMem → Int32 → Option (Int32 × vMem)) : Nat → vMem → Int32 → Option (Int32 × vMem)
  | 0, _, _ => none
  | n + 1, σ_13, v2_1 => cko σ_13 b [11] (if (gi σ_13 b 6) ≤ v2_1 then (k σ_13 v2_1) else cko σ_13 b [11] (dr (gr σ_13 b 4) (fun b_8 => cka σ_13 b_8 103 v2_1 (cko σ_13 b [11] (dr (gr σ_13 b 5) (fun b_9 => cka σ_13 b_9 105 v2_1 (cko σ_13 a0 [1] (bd (f_X1_act σ_13 a0 (gi σ_13 b_8 (Int32.toNatClampNeg v2_1)) (gi σ_13 b_9 (Int32.toNatClampNeg v2_1))) (fun r σ_14 => if r = 0 then (k σ_14 v2_1) else vl (v2_1 + 1) (fun v2_2 => f_X1_voyage_49 a0 b k n σ_14 v2_2))))))))))
def f_X1_voyage (σ : vMem) (a0 : Nat) : Option (Int32 × vMem) := nw σ 11 7 (fun b σ_1 => cko σ_1 a0 [1] (dr (gr σ_1 a0 15) (fun b_1 => cko σ_1 a0 [1] (bv (f_X11_init σ_1 b b_1 (gi σ_1 a0 16)) (fun σ_2 => cko σ_2 a0 [1] (vl (si σ_2 a0 16 0) (fun σ_3 => cko σ_3 b [11] (bxv (f_X11_read σ_3 b) (fun σ_4 => cko σ_4 a0 [1] (dr (gr σ_4 a0 1) (fun b_3 => cko σ_4 a0 [1] (dr (gr σ_4 a0 0) (fun b_4 => cko σ_4 b_3 [2] (bv (f_X2_be σ_4 b_3 b_4) (fun σ_6 => vl (fun (σ_7 : vMem) (v2 : Int32) => vl (fun (σ_8 : vMem) => cko σ_8 a0 [1] (vl (si σ_8 a0 18 0) (fun σ_9 => cko σ_9 b [11] (vl (fun (y : Int64) => cko σ_9 a0 [1] (bv (f_X1_tell σ_9 a0 y) (fun σ_10 => cko σ_10 a0 [1] (dr (gr σ_10 a0 0) (fun b_5 => cko σ_10 b_5 [2] (cko σ_10 a0 [1] (dr (gr σ_10 a0 1) (fun b_6 => cko σ_10 b_6 [2] (cko σ_10 a0 [1] (bv (f_X1_tell σ_10 a0 (Int32.toInt64 ((gi σ_10 b_5 6) - (gi σ_10 b_6 6)))) (fun σ_11 => some (v2, σ_11)))))))))))) (fun k_2 => if (gi σ_9 b 6) ≤ v2 then (k_2 0) else k_2 1))))) (fun k_1 => if v2 ≤ 0 then (k_1 σ_7) else cko σ_7 a0 [1] (dr (gr σ_7 a0 1) (fun b_7 => cko σ_7 a0 [1] (bv (f_X1_remember σ_7 a0 b_7) (fun σ_12 => k_1 σ_12)))))) (fun k => f_X1_voyage_49 a0 b k FU σ_6 0)))))))) (fun b_2 σ_5 => cko σ_5 b_2 [6] (cko σ_5 b_2 [6] (some (((-1) - (gi σ_5 b_2 0)), σ_5))))))))))))
abbrev P_X1_voyage (l : Launch) (d n0 s0 : Nat) : vX → Prop := vMX l yX1_voyage cX1_voyage 3 (some .int) [(21, 25, 28, 113)] d n0 s0
theorem w_X1_voyage_49 {l : Launch} {d n0 s0 : Nat} (hd : 612 ≤ d) (h0 : l.stackTraces = false) (a0 : Nat) (b : Nat) (k : vMem → Int32 → Option (Int32 × vMem)) (hk : ∀ (σ_7 : vMem), ∀ (v2 : Int32), V (P_X1_voyage l d n0 s0) nxI σ_7 82 [some (.ref a0), some (.ref b), some (.int v2)] [] (k σ_7 v2)) : ∀ (n : Nat) (σ_13 : vMem) (v2_1 : Int32), V (P_X1_voyage l d n0 s0) nxI σ_13 49 [some (.ref a0), some (.ref b), some (.int v2_1)] [] (f_X1_voyage_49 a0 b k n σ_13 v2_1) := by
  have hC : vPx (P_X1_voyage l d n0 s0) cX1_voyage 3 "NobodyBeenAft" (some .int) d := vMX_cx
  intro n
  induction n with
  | zero =>
    intro σ_13 v2_1
    exact V_none
  | succ n ih =>
    intro σ_13 v2_1
    refine V_eq (f_X1_voyage_49.eq_2 ..) ?_
    refine V_iload_n hC dX1_voyage_49 rfl ?_
    refine V_aload_n hC dX1_voyage_50 rfl ?_
    refine g_X1_309 hC dX1_voyage_51 ?_
    refine V_icmp_ge (tgt := 82) hC dX1_voyage_54 (by decide) ?_ ?_
    · exact hk σ_13 v2_1
    · refine V_aload_n hC dX1_voyage_57 rfl ?_
      refine V_aload_n hC dX1_voyage_58 rfl ?_
      refine g_X1_310 hC dX1_voyage_59 (fun b_8 => ?_)
      refine V_iload_n hC dX1_voyage_62 rfl ?_
      refine V_cald hC dX1_voyage_63 ?_
      refine V_aload_n hC dX1_voyage_64 rfl ?_
      refine g_X1_314 hC dX1_voyage_65 (fun b_9 => ?_)
      refine V_iload_n hC dX1_voyage_68 rfl ?_
      refine V_iald hC dX1_voyage_69 ?_
      refine V_cko (fun hm => V_callV_I (c := 1) (As := [.int (gi σ_13 b_8 (Int32.toNatClampNeg v2_1)), .int (gi σ_13 b_9 (Int32.toNatClampNeg v2_1))]) (rest := []) (d' := 611) hC dX1_voyage_70 2 (lw_V q824 q826 qs19 q85 q827) (by decide +kernel) (List.mem_singleton.mp hm) (by decide) (by decide) rfl rfl rfl (Nat.le_of_ble_eq_true rfl) (Nat.le_trans (by decide) hd) (by decide) vMX_l (fun _ h => c_X1_act (Nat.le_refl _) h0 h) (fun r σ_14 => ?_))
      refine V_if_eq (tgt := 82) hC dX1_voyage_73 (by decide) ?_ ?_
      · exact hk σ_14 v2_1
      · refine V_iincL (v := v2_1 + 1) (ls' := fun v2_2 => [some (.ref a0), some (.ref b), some (.int v2_2)]) hC dX1_voyage_76 rfl (by decide) rfl rfl (fun _ => rfl) (fun v2_2 => ?_)
        refine V_goto (tgt := 49) hC dX1_voyage_79 (by decide) ?_
        exact ih σ_14 v2_2
theorem w_X1_voyage {l : Launch} {d n0 s0 : Nat} (hd : 612 ≤ d) (h0 : l.stackTraces = false) (σ : vMem) (a0 : Nat) : V (P_X1_voyage l d n0 s0) nxI σ 0 [some (.ref a0), none, none] [] (f_X1_voyage σ a0) := by
  have hC : vPx (P_X1_voyage l d n0 s0) cX1_voyage 3 "NobodyBeenAft" (some .int) d := vMX_cx
  refine V_eq (f_X1_voyage.eq_1 ..) ?_
  refine V_new (c := 11) hC dX1_voyage_0 q776 q777 q107 rfl (by decide) in_X11 tyX11 tyX11_ok (by decide +kernel) (fun b σ_1 => ?_)
  refine V_dup hC dX1_voyage_3 rfl ?_
  refine V_aload_n hC dX1_voyage_4 rfl ?_
  refine g_X1_52 hC dX1_voyage_5 (fun b_1 => ?_)
  refine V_aload_n hC dX1_voyage_8 rfl ?_
  refine g_X1_96 hC dX1_voyage_9 ?_
  refine V_callI_V (As := [.ref b_1, .int (gi σ_1 a0 16)]) (rest := [.ref b]) (d' := 1) hC dX1_voyage_12 2 q780 q107 q778 q779 rfl rfl (by decide +kernel) rfl rfl (Nat.le_of_ble_eq_true rfl) (Nat.le_trans (by decide) hd) (by decide) vMX_l (fun _ h => c_X11_init (Nat.le_refl _) h) (fun σ_2 => ?_)
  refine V_astore_n (ls' := [some (.ref a0), some (.ref b), none]) hC dX1_voyage_15 (by decide) rfl rfl ?_
  refine V_aload_n hC dX1_voyage_16 rfl ?_
  refine V_iconst (v := 0) hC dX1_voyage_17 rfl ?_
  refine p_X1_96 hC dX1_voyage_18 (fun σ_3 => ?_)
  refine V_aload_n hC dX1_voyage_21 rfl ?_
  refine V_cko (fun hm => V_xcallV_V (c := 11) (As := []) (rest := []) (d' := 7) hC dX1_voyage_22 0 (lw_V q800 q801 q802 q107 q803) (by decide +kernel) (List.mem_singleton.mp hm) (by decide) (by decide) rfl rfl rfl (Nat.le_of_ble_eq_true rfl) (Nat.le_trans (by decide) hd) (by decide) vMX_l (fun _ h => c_X11_read (Nat.le_refl _) h0 h) (fun σ_4 => ?_) (fun b_2 σ_5 => ?_))
  · refine V_goto (tgt := 36) hC dX1_voyage_25 (by decide) ?_
    refine V_aload_n hC dX1_voyage_36 rfl ?_
    refine g_X1_25 hC dX1_voyage_37 (fun b_3 => ?_)
    refine V_aload_n hC dX1_voyage_40 rfl ?_
    refine g_X1_21 hC dX1_voyage_41 (fun b_4 => ?_)
    refine V_cko (fun hm => V_callV_V (c := 2) (As := [.ref b_4]) (rest := []) (d' := 0) hC dX1_voyage_44 1 (lw_V q705 q706 q707 q86 q708) (by decide +kernel) (List.mem_singleton.mp hm) (by decide) (by decide) rfl rfl rfl (Nat.le_of_ble_eq_true rfl) (Nat.le_trans (by decide) hd) (by decide) vMX_l (fun _ h => c_X2_be (Nat.le_refl _) h) (fun σ_6 => ?_))
    refine V_iconst (v := 0) hC dX1_voyage_47 rfl ?_
    refine V_istore_n (ls' := [some (.ref a0), some (.ref b), some (.int 0)]) hC dX1_voyage_48 (by decide) rfl rfl ?_
    refine V_let (B := fun k => ∀ (σ_7 : vMem), ∀ (v2 : Int32), V (P_X1_voyage l d n0 s0) nxI σ_7 82 [some (.ref a0), some (.ref b), some (.int v2)] [] (k σ_7 v2)) ?_ ?_
    · intro σ_7 v2
      refine V_iload_n hC dX1_voyage_82 rfl ?_
      refine V_let (B := fun k_1 => ∀ (σ_8 : vMem), V (P_X1_voyage l d n0 s0) nxI σ_8 94 [some (.ref a0), some (.ref b), some (.int v2)] [] (k_1 σ_8)) ?_ ?_
      · intro σ_8
        refine V_aload_n hC dX1_voyage_94 rfl ?_
        refine V_iconst (v := 0) hC dX1_voyage_95 rfl ?_
        refine p_X1_84 hC dX1_voyage_96 (fun σ_9 => ?_)
        refine V_aload_n hC dX1_voyage_99 rfl ?_
        refine V_iload_n hC dX1_voyage_100 rfl ?_
        refine V_aload_n hC dX1_voyage_101 rfl ?_
        refine g_X1_309 hC dX1_voyage_102 ?_
        refine V_let (B := fun k_2 => ∀ (y : Int64), V (P_X1_voyage l d n0 s0) nxI σ_9 113 [some (.ref a0), none, some (.int v2)] [.long y, .ref a0] (k_2 y)) ?_ ?_
        · intro y
          refine V_cko (fun hm => V_callV_V (c := 1) (As := [.long y]) (rest := []) (d' := 0) hC dX1_voyage_113 1 (lw_V q768 q770 qs17 q85 q771) (by decide +kernel) (List.mem_singleton.mp hm) (by decide) (by decide) rfl rfl rfl (Nat.le_of_ble_eq_true rfl) (Nat.le_trans (by decide) hd) (by decide) vMX_l (fun _ h => c_X1_tell (Nat.le_refl _) h) (fun σ_10 => ?_))
          refine V_aload_n hC dX1_voyage_116 rfl ?_
          refine V_aload_n hC dX1_voyage_117 rfl ?_
          refine g_X1_21 hC dX1_voyage_118 (fun b_5 => ?_)
          refine g_X1_277 hC dX1_voyage_121 ?_
          refine V_aload_n hC dX1_voyage_124 rfl ?_
          refine g_X1_25 hC dX1_voyage_125 (fun b_6 => ?_)
          refine g_X1_277 hC dX1_voyage_128 ?_
          refine V_isub hC dX1_voyage_131 ?_
          refine V_i2l hC dX1_voyage_132 ?_
          refine V_cko (fun hm => V_callV_V (c := 1) (As := [.long (Int32.toInt64 ((gi σ_10 b_5 6) - (gi σ_10 b_6 6)))]) (rest := []) (d' := 0) hC dX1_voyage_133 1 (lw_V q768 q770 qs17 q85 q771) (by decide +kernel) (List.mem_singleton.mp hm) (by decide) (by decide) rfl rfl rfl (Nat.le_of_ble_eq_true rfl) (Nat.le_trans (by decide) hd) (by decide) vMX_l (fun _ h => c_X1_tell (Nat.le_refl _) h) (fun σ_11 => ?_))
          refine V_iload_n hC dX1_voyage_136 rfl ?_
          exact V_xireturn dX1_voyage_137 rfl
        · intro k_2 hk_2
          refine V_icmp_ge (tgt := 112) hC dX1_voyage_105 (by decide) ?_ ?_
          · refine V_lconst (v := 0) hC dX1_voyage_112 rfl ?_
            refine V_clr [1] (ls' := [some (.ref a0), none, some (.int v2)]) rfl ?_
            exact hk_2 0
          · refine V_lconst (v := 1) hC dX1_voyage_108 rfl ?_
            refine V_goto (tgt := 113) hC dX1_voyage_109 (by decide) ?_
            refine V_clr [1] (ls' := [some (.ref a0), none, some (.int v2)]) rfl ?_
            exact hk_2 1
      · intro k_1 hk_1
        refine V_if_le (tgt := 94) hC dX1_voyage_83 (by decide) ?_ ?_
        · exact hk_1 σ_7
        · refine V_aload_n hC dX1_voyage_86 rfl ?_
          refine V_aload_n hC dX1_voyage_87 rfl ?_
          refine g_X1_25 hC dX1_voyage_88 (fun b_7 => ?_)
          refine V_cko (fun hm => V_callV_V (c := 1) (As := [.ref b_7]) (rest := []) (d' := 1) hC dX1_voyage_91 1 (lw_V q701 q703 qs8 q85 q704) (by decide +kernel) (List.mem_singleton.mp hm) (by decide) (by decide) rfl rfl rfl (Nat.le_of_ble_eq_true rfl) (Nat.le_trans (by decide) hd) (by decide) vMX_l (fun _ h => c_X1_remember (Nat.le_refl _) h) (fun σ_12 => ?_))
          exact hk_1 σ_12
    · intro k hk
      exact (w_X1_voyage_49 hd h0 a0 b k hk) FU σ_6 0
  · refine VT_catch hC (by decide) (by decide) (by decide) (by decide) rfl q292 q391 ?_
    refine V_astore_n (ls' := [some (.ref a0), some (.ref b), some (.ref b_2)]) hC dX1_voyage_28 (by decide) rfl rfl ?_
    refine V_iconst (v := (-1)) hC dX1_voyage_29 rfl ?_
    refine V_aload_n hC dX1_voyage_30 rfl ?_
    refine g_X1_115 hC dX1_voyage_31 ?_
    refine V_isub hC dX1_voyage_34 ?_
    exact V_xireturn dX1_voyage_35 rfl
theorem c_X1_voyage {l : Launch} {d : Nat} (hd : 612 ≤ d) (h0 : l.stackTraces = false) {σ : vMem} {a0 : Nat} {r : Int32 × vMem} (h : f_X1_voyage σ a0 = some r) : vOx l yX1_voyage (wsW_ yX1_voyage cX1_voyage 3 (some .int) [(21, 25, 28, 113)]) d [.ref a0] σ (nxI r) := V_wmethod (em := nxI) (hh := [(21, 25, 28, 113)]) [some (.ref a0), none, none] (by decide +kernel) rfl (Nat.le_of_ble_eq_true rfl) (w_X1_voyage hd h0 σ a0) h
/-! NobodyBeenAft.undo()I -/
def f_X1_undo (σ : vMem) (a0 : Nat) : Option (Int32 × vMem) := cko σ a0 [1] (if ¬ (gi σ a0 14) = 0 then (cko σ a0 [1] (cko σ a0 [1] (vl (si σ a0 14 ((gi σ a0 14) - 1)) (fun σ_1 => cko σ_1 a0 [1] (dr (gr σ_1 a0 0) (fun b => cko σ_1 a0 [1] (dr (gr σ_1 a0 3) (fun b_1 => cko σ_1 a0 [1] (cka σ_1 b_1 110 (gi σ_1 a0 14) (dr (gr σ_1 b_1 (Int32.toNatClampNeg (gi σ_1 a0 14))) (fun b_2 => cko σ_1 b [2] (bv (f_X2_be σ_1 b b_2) (fun σ_2 => cko σ_2 a0 [1] (some ((gi σ_2 a0 14), σ_2))))))))))))))) else some ((-1), σ))
abbrev P_X1_undo (l : Launch) (d n0 s0 : Nat) : vX → Prop := vMP l yX1_undo cX1_undo 1 (some .int) d n0 s0
theorem w_X1_undo {l : Launch} {d n0 s0 : Nat} (hd : 1 ≤ d) (σ : vMem) (a0 : Nat) : V (P_X1_undo l d n0 s0) (vEmb eI) σ 0 [some (.ref a0)] [] (f_X1_undo σ a0) := by
  have hC : vPx (P_X1_undo l d n0 s0) cX1_undo 1 "NobodyBeenAft" (some .int) d := vMP_cx
  refine V_eq (f_X1_undo.eq_1 ..) ?_
  refine V_aload_n hC dX1_undo_0 rfl ?_
  refine g_X1_164 hC dX1_undo_1 ?_
  refine V_if_ne (tgt := 9) hC dX1_undo_4 (by decide) ?_ ?_
  · refine V_aload_n hC dX1_undo_9 rfl ?_
    refine V_dup hC dX1_undo_10 rfl ?_
    refine g_X1_164 hC dX1_undo_11 ?_
    refine V_iconst (v := 1) hC dX1_undo_14 rfl ?_
    refine V_isub hC dX1_undo_15 ?_
    refine p_X1_164 hC dX1_undo_16 (fun σ_1 => ?_)
    refine V_aload_n hC dX1_undo_19 rfl ?_
    refine g_X1_21 hC dX1_undo_20 (fun b => ?_)
    refine V_aload_n hC dX1_undo_23 rfl ?_
    refine g_X1_31 hC dX1_undo_24 (fun b_1 => ?_)
    refine V_aload_n hC dX1_undo_27 rfl ?_
    refine g_X1_164 hC dX1_undo_28 ?_
    refine V_aald (k := 110) (t0 := 6) hC dX1_undo_31 (by decide) (fun _ => rfl) rfl (V_dr fun b_2 => ?_)
    refine V_cko (fun hm => V_callV_V (c := 2) (As := [.ref b_2]) (rest := []) (d' := 0) hC dX1_undo_32 1 (lw_V q705 q706 q707 q86 q708) (by decide +kernel) (List.mem_singleton.mp hm) (by decide) (by decide) rfl rfl rfl (Nat.le_of_ble_eq_true rfl) (Nat.le_trans (by decide) hd) (by decide) vMP_l (fun _ h => c_X2_be (Nat.le_refl _) h) (fun σ_2 => ?_))
    refine V_aload_n hC dX1_undo_35 rfl ?_
    refine g_X1_164 hC dX1_undo_36 ?_
    exact V_ireturn dX1_undo_39 rfl rfl
  · refine V_iconst (v := (-1)) hC dX1_undo_7 rfl ?_
    exact V_ireturn dX1_undo_8 rfl rfl
theorem c_X1_undo {l : Launch} {d : Nat} (hd : 1 ≤ d) {σ : vMem} {a0 : Nat} {r : Int32 × vMem} (h : f_X1_undo σ a0 = some r) : vOk l yX1_undo cX1_undo 1 (some .int) d [.ref a0] σ (.inl ((eI).1 r, (eI).2 r)) := V_method (em := eI) [some (.ref a0)] (by decide +kernel) rfl (Nat.le_of_ble_eq_true rfl) (w_X1_undo hd σ a0) h
/-! NobodyBeenAft.lane(I)I -/
def f_X1_lane (σ : vMem) (a0 : Nat) (x1 : Int32) : Option (Int32 × vMem) := bp (f_X1_in σ (Int32.toInt64 x1) 0 60) (fun r => if ¬ r = 0 then (cko σ a0 [1] (dr (gr σ a0 2) (fun b => cko σ a0 [1] (dr (gr σ a0 0) (fun b_1 => cko σ b [2] (bv (f_X2_be σ b b_1) (fun σ_1 => cko σ_1 a0 [1] (dr (gr σ_1 a0 2) (fun b_2 => cko σ_1 a0 [1] (bv (f_X1_goSteps σ_1 a0 b_2 x1) (fun σ_2 => cko σ_2 a0 [1] (vl (si σ_2 a0 18 0) (fun σ_3 => cko σ_3 a0 [1] (dr (gr σ_3 a0 2) (fun b_3 => cko σ_3 b_3 [2] (cko σ_3 a0 [1] (dr (gr σ_3 a0 0) (fun b_4 => cko σ_3 b_4 [2] (cko σ_3 a0 [1] (bv (f_X1_tell σ_3 a0 (Int32.toInt64 ((gi σ_3 b_3 6) - (gi σ_3 b_4 6)))) (fun σ_4 => cko σ_4 a0 [1] (dr (gr σ_4 a0 2) (fun b_5 => cko σ_4 b_5 [2] (some ((gi σ_4 b_5 5), σ_4))))))))))))))))))))))))) else some ((-1), σ))
abbrev P_X1_lane (l : Launch) (d n0 s0 : Nat) : vX → Prop := vMP l yX1_lane cX1_lane 2 (some .int) d n0 s0
theorem w_X1_lane {l : Launch} {d n0 s0 : Nat} (hd : 4 ≤ d) (σ : vMem) (a0 : Nat) (x1 : Int32) : V (P_X1_lane l d n0 s0) (vEmb eI) σ 0 [some (.ref a0), some (.int x1)] [] (f_X1_lane σ a0 x1) := by
  have hC : vPx (P_X1_lane l d n0 s0) cX1_lane 2 "NobodyBeenAft" (some .int) d := vMP_cx
  refine V_eq (f_X1_lane.eq_1 ..) ?_
  refine V_iload_n hC dX1_lane_0 rfl ?_
  refine V_i2l hC dX1_lane_1 ?_
  refine V_lconst (v := 0) hC dX1_lane_2 rfl ?_
  refine V_ldc2 hC dX1_lane_3 q748 ?_
  refine V_callS_PI (As := [.long (Int32.toInt64 x1), .long 0, .long 60]) (rest := []) (d' := 0) hC dX1_lane_6 3 (lw_S q285 q286 q85 q287) (by decide +kernel) rfl rfl (Nat.le_of_ble_eq_true rfl) (Nat.le_trans (by decide) hd) (by decide) vMP_l (fun _ h => c_X1_in (Nat.le_refl _) h) (fun r => ?_)
  refine V_if_ne (tgt := 14) hC dX1_lane_9 (by decide) ?_ ?_
  · refine V_aload_n hC dX1_lane_14 rfl ?_
    refine g_X1_28 hC dX1_lane_15 (fun b => ?_)
    refine V_aload_n hC dX1_lane_18 rfl ?_
    refine g_X1_21 hC dX1_lane_19 (fun b_1 => ?_)
    refine V_cko (fun hm => V_callV_V (c := 2) (As := [.ref b_1]) (rest := []) (d' := 0) hC dX1_lane_22 1 (lw_V q705 q706 q707 q86 q708) (by decide +kernel) (List.mem_singleton.mp hm) (by decide) (by decide) rfl rfl rfl (Nat.le_of_ble_eq_true rfl) (Nat.le_trans (by decide) hd) (by decide) vMP_l (fun _ h => c_X2_be (Nat.le_refl _) h) (fun σ_1 => ?_))
    refine V_aload_n hC dX1_lane_25 rfl ?_
    refine V_aload_n hC dX1_lane_26 rfl ?_
    refine g_X1_28 hC dX1_lane_27 (fun b_2 => ?_)
    refine V_iload_n hC dX1_lane_30 rfl ?_
    refine V_cko (fun hm => V_callV_V (c := 1) (As := [.ref b_2, .int x1]) (rest := []) (d' := 3) hC dX1_lane_31 2 (lw_V q749 q751 qs14 q85 q752) (by decide +kernel) (List.mem_singleton.mp hm) (by decide) (by decide) rfl rfl rfl (Nat.le_of_ble_eq_true rfl) (Nat.le_trans (by decide) hd) (by decide) vMP_l (fun _ h => c_X1_goSteps (Nat.le_refl _) h) (fun σ_2 => ?_))
    refine V_aload_n hC dX1_lane_34 rfl ?_
    refine V_iconst (v := 0) hC dX1_lane_35 rfl ?_
    refine p_X1_84 hC dX1_lane_36 (fun σ_3 => ?_)
    refine V_aload_n hC dX1_lane_39 rfl ?_
    refine V_aload_n hC dX1_lane_40 rfl ?_
    refine g_X1_28 hC dX1_lane_41 (fun b_3 => ?_)
    refine g_X1_277 hC dX1_lane_44 ?_
    refine V_aload_n hC dX1_lane_47 rfl ?_
    refine g_X1_21 hC dX1_lane_48 (fun b_4 => ?_)
    refine g_X1_277 hC dX1_lane_51 ?_
    refine V_isub hC dX1_lane_54 ?_
    refine V_i2l hC dX1_lane_55 ?_
    refine V_cko (fun hm => V_callV_V (c := 1) (As := [.long (Int32.toInt64 ((gi σ_3 b_3 6) - (gi σ_3 b_4 6)))]) (rest := []) (d' := 0) hC dX1_lane_56 1 (lw_V q768 q770 qs17 q85 q771) (by decide +kernel) (List.mem_singleton.mp hm) (by decide) (by decide) rfl rfl rfl (Nat.le_of_ble_eq_true rfl) (Nat.le_trans (by decide) hd) (by decide) vMP_l (fun _ h => c_X1_tell (Nat.le_refl _) h) (fun σ_4 => ?_))
    refine V_aload_n hC dX1_lane_59 rfl ?_
    refine g_X1_28 hC dX1_lane_60 (fun b_5 => ?_)
    refine g_X1_280 hC dX1_lane_63 ?_
    exact V_ireturn dX1_lane_66 rfl rfl
  · refine V_iconst (v := (-1)) hC dX1_lane_12 rfl ?_
    exact V_ireturn dX1_lane_13 rfl rfl
theorem c_X1_lane {l : Launch} {d : Nat} (hd : 4 ≤ d) {σ : vMem} {a0 : Nat} {x1 : Int32} {r : Int32 × vMem} (h : f_X1_lane σ a0 x1 = some r) : vOk l yX1_lane cX1_lane 2 (some .int) d [.ref a0, .int x1] σ (.inl ((eI).1 r, (eI).2 r)) := V_method (em := eI) [some (.ref a0), some (.int x1)] (by decide +kernel) rfl (Nat.le_of_ble_eq_true rfl) (w_X1_lane hd σ a0 x1) h
/-! NobodyBeenAft.strikes()I -/
def f_X1_strikes_66 (a0 : Nat) (σ_2 : vMem) (v1 : Int32) (k_1 : Int32 → Option (Int32 × vMem)) : Nat → Int32 → Option (Int32 × vMem)
  | 0, _ => none
  | n + 1, v2_1 => cko σ_2 a0 [1] (dr (gr σ_2 a0 5) (fun b_2 => cka σ_2 b_2 105 v2_1 (cko σ_2 a0 [1] (dr (gr σ_2 a0 2) (fun b_3 => cko σ_2 b_3 [2] (vl (vl (v2_1 + 1) (fun v2_2 => f_X1_strikes_66 a0 σ_2 v1 k_1 n v2_2)) (fun k_2 => if ¬ (gi σ_2 b_2 (Int32.toNatClampNeg v2_1)) = (gi σ_2 b_3 4) then k_2 else cko σ_2 a0 [1] (dr (gr σ_2 a0 6) (fun b_4 => cka σ_2 b_4 105 v2_1 (cko σ_2 a0 [1] (dr (gr σ_2 a0 2) (fun b_5 => cko σ_2 b_5 [2] (if (gi σ_2 b_4 (Int32.toNatClampNeg v2_1)) = (gi σ_2 b_5 5) then (k_1 v2_1) else k_2)))))))))))))
def f_X1_strikes_13 (a0 : Nat) (k : vMem → Int32 → Option (Int32 × vMem)) : Nat → vMem → Int32 → Option (Int32 × vMem)
  | 0, _, _ => none
  | n_1 + 1, σ_5, v1_1 => if 999 < v1_1 then (some ((-2), σ_5)) else cko σ_5 a0 [1] (dr (gr σ_5 a0 2) (fun b_6 => cko σ_5 b_6 [2] (cko σ_5 b_6 [2] (vl (si σ_5 b_6 4 ((gi σ_5 b_6 4) + 1)) (fun σ_6 => cko σ_6 a0 [1] (dr (gr σ_6 a0 2) (fun b_7 => cko σ_6 b_7 [2] (bv (f_X2_steer σ_6 b_7) (fun σ_7 => cko σ_7 a0 [1] (dr (gr σ_7 a0 2) (fun b_8 => cko σ_7 b_8 [2] (cko σ_7 a0 [1] (dr (gr σ_7 a0 2) (fun b_9 => cko σ_7 b_9 [2] (cko σ_7 a0 [1] (bp (f_X1_hitsAt σ_7 a0 (gi σ_7 b_8 4) (gi σ_7 b_9 5)) (fun r => if ¬ r = 0 then (k σ_7 v1_1) else vl (v1_1 + 1) (fun v1_2 => f_X1_strikes_13 a0 k n_1 σ_7 v1_2))))))))))))))))))
def f_X1_strikes (σ : vMem) (a0 : Nat) : Option (Int32 × vMem) := cko σ a0 [1] (dr (gr σ a0 2) (fun b => cko σ a0 [1] (dr (gr σ a0 0) (fun b_1 => cko σ b [2] (bv (f_X2_be σ b b_1) (fun σ_1 => vl (fun (σ_2 : vMem) (v1 : Int32) => vl (fun (v2 : Int32) => cko σ_2 a0 [1] (vl (si σ_2 a0 18 0) (fun σ_3 => cko σ_3 a0 [1] (bv (f_X1_tell σ_3 a0 (Int32.toInt64 v2)) (fun σ_4 => some (v1, σ_4)))))) (fun k_1 => f_X1_strikes_66 a0 σ_2 v1 k_1 FU 0)) (fun k => f_X1_strikes_13 a0 k FU σ_1 1)))))))
abbrev P_X1_strikes (l : Launch) (d n0 s0 : Nat) : vX → Prop := vMP l yX1_strikes cX1_strikes 3 (some .int) d n0 s0
theorem w_X1_strikes_66 {l : Launch} {d n0 s0 : Nat} (hd : 2 ≤ d) (a0 : Nat) (σ_2 : vMem) (v1 : Int32) (k_1 : Int32 → Option (Int32 × vMem)) (hk_1 : ∀ (v2 : Int32), V (P_X1_strikes l d n0 s0) (vEmb eI) σ_2 104 [some (.ref a0), some (.int v1), some (.int v2)] [] (k_1 v2)) : ∀ (n : Nat) (v2_1 : Int32), V (P_X1_strikes l d n0 s0) (vEmb eI) σ_2 66 [some (.ref a0), some (.int v1), some (.int v2_1)] [] (f_X1_strikes_66 a0 σ_2 v1 k_1 n v2_1) := by
  have hC : vPx (P_X1_strikes l d n0 s0) cX1_strikes 3 "NobodyBeenAft" (some .int) d := vMP_cx
  intro n
  induction n with
  | zero =>
    intro v2_1
    exact V_none
  | succ n ih =>
    intro v2_1
    refine V_eq (f_X1_strikes_66.eq_2 ..) ?_
    refine V_aload_n hC dX1_strikes_66 rfl ?_
    refine g_X1_39 hC dX1_strikes_67 (fun b_2 => ?_)
    refine V_iload_n hC dX1_strikes_70 rfl ?_
    refine V_iald hC dX1_strikes_71 ?_
    refine V_aload_n hC dX1_strikes_72 rfl ?_
    refine g_X1_28 hC dX1_strikes_73 (fun b_3 => ?_)
    refine g_X1_215 hC dX1_strikes_76 ?_
    refine V_let (B := fun k_2 => V (P_X1_strikes l d n0 s0) (vEmb eI) σ_2 98 [some (.ref a0), some (.int v1), some (.int v2_1)] [] (k_2)) ?_ ?_
    · skip
      refine V_iincL (v := v2_1 + 1) (ls' := fun v2_2 => [some (.ref a0), some (.int v1), some (.int v2_2)]) hC dX1_strikes_98 rfl (by decide) rfl rfl (fun _ => rfl) (fun v2_2 => ?_)
      refine V_goto (tgt := 66) hC dX1_strikes_101 (by decide) ?_
      exact ih v2_2
    · intro k_2 hk_2
      refine V_icmp_ne (tgt := 98) hC dX1_strikes_79 (by decide) ?_ ?_
      · exact hk_2
      · refine V_aload_n hC dX1_strikes_82 rfl ?_
        refine g_X1_42 hC dX1_strikes_83 (fun b_4 => ?_)
        refine V_iload_n hC dX1_strikes_86 rfl ?_
        refine V_iald hC dX1_strikes_87 ?_
        refine V_aload_n hC dX1_strikes_88 rfl ?_
        refine g_X1_28 hC dX1_strikes_89 (fun b_5 => ?_)
        refine g_X1_280 hC dX1_strikes_92 ?_
        refine V_icmp_eq (tgt := 104) hC dX1_strikes_95 (by decide) ?_ ?_
        · exact hk_1 v2_1
        · exact hk_2
theorem w_X1_strikes_13 {l : Launch} {d n0 s0 : Nat} (hd : 2 ≤ d) (a0 : Nat) (k : vMem → Int32 → Option (Int32 × vMem)) (hk : ∀ (σ_2 : vMem), ∀ (v1 : Int32), V (P_X1_strikes l d n0 s0) (vEmb eI) σ_2 64 [some (.ref a0), some (.int v1), none] [] (k σ_2 v1)) : ∀ (n_1 : Nat) (σ_5 : vMem) (v1_1 : Int32), V (P_X1_strikes l d n0 s0) (vEmb eI) σ_5 13 [some (.ref a0), some (.int v1_1), none] [] (f_X1_strikes_13 a0 k n_1 σ_5 v1_1) := by
  have hC : vPx (P_X1_strikes l d n0 s0) cX1_strikes 3 "NobodyBeenAft" (some .int) d := vMP_cx
  intro n_1
  induction n_1 with
  | zero =>
    intro σ_5 v1_1
    exact V_none
  | succ n_1 ih =>
    intro σ_5 v1_1
    refine V_eq (f_X1_strikes_13.eq_2 ..) ?_
    refine V_iload_n hC dX1_strikes_13 rfl ?_
    refine V_sipush (v := 999) hC dX1_strikes_14 rfl ?_
    refine V_icmp_gt (tgt := 123) hC dX1_strikes_17 (by decide) ?_ ?_
    · refine V_bipush (v := (-2)) hC dX1_strikes_123 rfl ?_
      exact V_ireturn dX1_strikes_125 rfl rfl
    · refine V_aload_n hC dX1_strikes_20 rfl ?_
      refine g_X1_28 hC dX1_strikes_21 (fun b_6 => ?_)
      refine V_dup hC dX1_strikes_24 rfl ?_
      refine g_X1_215 hC dX1_strikes_25 ?_
      refine V_iconst (v := 1) hC dX1_strikes_28 rfl ?_
      refine V_iadd hC dX1_strikes_29 ?_
      refine p_X1_215 hC dX1_strikes_30 (fun σ_6 => ?_)
      refine V_aload_n hC dX1_strikes_33 rfl ?_
      refine g_X1_28 hC dX1_strikes_34 (fun b_7 => ?_)
      refine V_cko (fun hm => V_callV_V (c := 2) (As := []) (rest := []) (d' := 1) hC dX1_strikes_37 0 (lw_V q757 q758 q759 q86 q760) (by decide +kernel) (List.mem_singleton.mp hm) (by decide) (by decide) rfl rfl rfl (Nat.le_of_ble_eq_true rfl) (Nat.le_trans (by decide) hd) (by decide) vMP_l (fun _ h => c_X2_steer (Nat.le_refl _) h) (fun σ_7 => ?_))
      refine V_aload_n hC dX1_strikes_40 rfl ?_
      refine V_aload_n hC dX1_strikes_41 rfl ?_
      refine g_X1_28 hC dX1_strikes_42 (fun b_8 => ?_)
      refine g_X1_215 hC dX1_strikes_45 ?_
      refine V_aload_n hC dX1_strikes_48 rfl ?_
      refine g_X1_28 hC dX1_strikes_49 (fun b_9 => ?_)
      refine g_X1_280 hC dX1_strikes_52 ?_
      refine V_cko (fun hm => V_callV_PI (c := 1) (As := [.int (gi σ_7 b_8 4), .int (gi σ_7 b_9 5)]) (rest := []) (d' := 0) hC dX1_strikes_55 2 (lw_V q764 q766 qs16 q85 q767) (by decide +kernel) (List.mem_singleton.mp hm) (by decide) (by decide) rfl rfl rfl (Nat.le_of_ble_eq_true rfl) (Nat.le_trans (by decide) hd) (by decide) vMP_l (fun _ h => c_X1_hitsAt (Nat.le_refl _) h) (fun r => ?_))
      refine V_if_ne (tgt := 64) hC dX1_strikes_58 (by decide) ?_ ?_
      · exact hk σ_7 v1_1
      · refine V_goto (tgt := 117) hC dX1_strikes_61 (by decide) ?_
        refine V_iincL (v := v1_1 + 1) (ls' := fun v1_2 => [some (.ref a0), some (.int v1_2), none]) hC dX1_strikes_117 rfl (by decide) rfl rfl (fun _ => rfl) (fun v1_2 => ?_)
        refine V_goto (tgt := 13) hC dX1_strikes_120 (by decide) ?_
        exact ih σ_7 v1_2
theorem w_X1_strikes {l : Launch} {d n0 s0 : Nat} (hd : 2 ≤ d) (σ : vMem) (a0 : Nat) : V (P_X1_strikes l d n0 s0) (vEmb eI) σ 0 [some (.ref a0), none, none] [] (f_X1_strikes σ a0) := by
  have hC : vPx (P_X1_strikes l d n0 s0) cX1_strikes 3 "NobodyBeenAft" (some .int) d := vMP_cx
  refine V_eq (f_X1_strikes.eq_1 ..) ?_
  refine V_aload_n hC dX1_strikes_0 rfl ?_
  refine g_X1_28 hC dX1_strikes_1 (fun b => ?_)
  refine V_aload_n hC dX1_strikes_4 rfl ?_
  refine g_X1_21 hC dX1_strikes_5 (fun b_1 => ?_)
  refine V_cko (fun hm => V_callV_V (c := 2) (As := [.ref b_1]) (rest := []) (d' := 0) hC dX1_strikes_8 1 (lw_V q705 q706 q707 q86 q708) (by decide +kernel) (List.mem_singleton.mp hm) (by decide) (by decide) rfl rfl rfl (Nat.le_of_ble_eq_true rfl) (Nat.le_trans (by decide) hd) (by decide) vMP_l (fun _ h => c_X2_be (Nat.le_refl _) h) (fun σ_1 => ?_))
  refine V_iconst (v := 1) hC dX1_strikes_11 rfl ?_
  refine V_istore_n (ls' := [some (.ref a0), some (.int 1), none]) hC dX1_strikes_12 (by decide) rfl rfl ?_
  refine V_let (B := fun k => ∀ (σ_2 : vMem), ∀ (v1 : Int32), V (P_X1_strikes l d n0 s0) (vEmb eI) σ_2 64 [some (.ref a0), some (.int v1), none] [] (k σ_2 v1)) ?_ ?_
  · intro σ_2 v1
    refine V_iconst (v := 0) hC dX1_strikes_64 rfl ?_
    refine V_istore_n (ls' := [some (.ref a0), some (.int v1), some (.int 0)]) hC dX1_strikes_65 (by decide) rfl rfl ?_
    refine V_let (B := fun k_1 => ∀ (v2 : Int32), V (P_X1_strikes l d n0 s0) (vEmb eI) σ_2 104 [some (.ref a0), some (.int v1), some (.int v2)] [] (k_1 v2)) ?_ ?_
    · intro v2
      refine V_aload_n hC dX1_strikes_104 rfl ?_
      refine V_iconst (v := 0) hC dX1_strikes_105 rfl ?_
      refine p_X1_84 hC dX1_strikes_106 (fun σ_3 => ?_)
      refine V_aload_n hC dX1_strikes_109 rfl ?_
      refine V_iload_n hC dX1_strikes_110 rfl ?_
      refine V_i2l hC dX1_strikes_111 ?_
      refine V_cko (fun hm => V_callV_V (c := 1) (As := [.long (Int32.toInt64 v2)]) (rest := []) (d' := 0) hC dX1_strikes_112 1 (lw_V q768 q770 qs17 q85 q771) (by decide +kernel) (List.mem_singleton.mp hm) (by decide) (by decide) rfl rfl rfl (Nat.le_of_ble_eq_true rfl) (Nat.le_trans (by decide) hd) (by decide) vMP_l (fun _ h => c_X1_tell (Nat.le_refl _) h) (fun σ_4 => ?_))
      refine V_iload_n hC dX1_strikes_115 rfl ?_
      exact V_ireturn dX1_strikes_116 rfl rfl
    · intro k_1 hk_1
      exact (w_X1_strikes_66 hd a0 σ_2 v1 k_1 hk_1) FU 0
  · intro k hk
    exact (w_X1_strikes_13 hd a0 k hk) FU σ_1 1
theorem c_X1_strikes {l : Launch} {d : Nat} (hd : 2 ≤ d) {σ : vMem} {a0 : Nat} {r : Int32 × vMem} (h : f_X1_strikes σ a0 = some r) : vOk l yX1_strikes cX1_strikes 3 (some .int) d [.ref a0] σ (.inl ((eI).1 r, (eI).2 r)) := V_method (em := eI) [some (.ref a0), none, none] (by decide +kernel) rfl (Nat.le_of_ble_eq_true rfl) (w_X1_strikes hd σ a0) h
/-! NobodyBeenAft$Course.<init>(LNobodyBeenAft;)V -/
def f_X12_init (σ : vMem) (a0 : Nat) (a1 : Nat) : Option (vMem) := cko σ a0 [12, 13, 14, 15] (vl (sr σ a0 2 (some a1)) (fun σ_1 => nwa σ_1 105 9 (fun b σ_2 => cko σ_2 a0 [12, 13, 14, 15] (vl (sr σ_2 a0 0 (some b)) (fun σ_3 => nwa σ_3 105 9 (fun b_1 σ_4 => cko σ_4 a0 [12, 13, 14, 15] (vl (sr σ_4 a0 1 (some b_1)) (fun σ_5 => some σ_5))))))))
abbrev P_X12_init (l : Launch) (d n0 s0 : Nat) : vX → Prop := vMP l yX12_init cX12_init 2 none d n0 s0
theorem w_X12_init {l : Launch} {d n0 s0 : Nat} (hd : 0 ≤ d) (σ : vMem) (a0 : Nat) (a1 : Nat) : V (P_X12_init l d n0 s0) (vEmb eV) σ 0 [some (.ref a0), some (.ref a1)] [] (f_X12_init σ a0 a1) := by
  have hC : vPx (P_X12_init l d n0 s0) cX12_init 2 "NobodyBeenAft$Course" none d := vMP_cx
  refine V_eq (f_X12_init.eq_1 ..) ?_
  refine V_aload_n hC dX12_init_0 rfl ?_
  refine V_aload_n hC dX12_init_1 rfl ?_
  refine p_X12_3 hC dX12_init_2 (fun X hX => (vMP_n X hX).trans rfl) (fun σ_1 => ?_)
  refine V_aload_n hC dX12_init_5 rfl ?_
  refine V_objInit hC dX12_init_6 q852 q120 q121 (Nat.le_of_ble_eq_true rfl) ?_
  refine V_aload_n hC dX12_init_9 rfl ?_
  refine V_bipush (v := 9) hC dX12_init_10 rfl ?_
  refine V_newa_int hC dX12_init_12 q172 (fun b σ_2 => ?_)
  refine p_X12_15 hC dX12_init_14 (fun σ_3 => ?_)
  refine V_aload_n hC dX12_init_17 rfl ?_
  refine V_bipush (v := 9) hC dX12_init_18 rfl ?_
  refine V_newa_int hC dX12_init_20 q172 (fun b_1 σ_4 => ?_)
  refine p_X12_19 hC dX12_init_22 (fun σ_5 => ?_)
  exact V_return dX12_init_25 rfl rfl
theorem c_X12_init {l : Launch} {d : Nat} (hd : 0 ≤ d) {σ : vMem} {a0 : Nat} {a1 : Nat} {r : vMem} (h : f_X12_init σ a0 a1 = some r) : vOk l yX12_init cX12_init 2 none d [.ref a0, .ref a1] σ (.inl ((eV).1 r, (eV).2 r)) := V_method (em := eV) [some (.ref a0), some (.ref a1)] (by decide +kernel) rfl (Nat.le_of_ble_eq_true rfl) (w_X12_init hd σ a0 a1) h
/-! NobodyBeenAft$Open.<init>(LNobodyBeenAft;)V -/
def f_X13_init (σ : vMem) (a0 : Nat) (a1 : Nat) : Option (vMem) := cko σ a0 [13] (vl (sr σ a0 3 (some a1)) (fun σ_1 => bv (f_X12_init σ_1 a0 a1) (fun σ_2 => some σ_2)))
abbrev P_X13_init (l : Launch) (d n0 s0 : Nat) : vX → Prop := vMP l yX13_init cX13_init 2 none d n0 s0
theorem w_X13_init {l : Launch} {d n0 s0 : Nat} (hd : 1 ≤ d) (σ : vMem) (a0 : Nat) (a1 : Nat) : V (P_X13_init l d n0 s0) (vEmb eV) σ 0 [some (.ref a0), some (.ref a1)] [] (f_X13_init σ a0 a1) := by
  have hC : vPx (P_X13_init l d n0 s0) cX13_init 2 "NobodyBeenAft$Open" none d := vMP_cx
  refine V_eq (f_X13_init.eq_1 ..) ?_
  refine V_aload_n hC dX13_init_0 rfl ?_
  refine V_aload_n hC dX13_init_1 rfl ?_
  refine p_X13_1 hC dX13_init_2 (fun X hX => (vMP_n X hX).trans rfl) (fun σ_1 => ?_)
  refine V_aload_n hC dX13_init_5 rfl ?_
  refine V_aload_n hC dX13_init_6 rfl ?_
  refine V_callIN_V (As := [.ref a1]) (rest := []) (d' := 0) hC dX13_init_7 1 q851 q108 q849 q850 rfl rfl (by decide +kernel) rfl rfl (Nat.le_of_ble_eq_true rfl) (Nat.le_trans (by decide) hd) (by decide) vMP_l (fun _ h => c_X12_init (Nat.le_refl _) h) (fun σ_2 => ?_)
  exact V_return dX13_init_10 rfl rfl
theorem c_X13_init {l : Launch} {d : Nat} (hd : 1 ≤ d) {σ : vMem} {a0 : Nat} {a1 : Nat} {r : vMem} (h : f_X13_init σ a0 a1 = some r) : vOk l yX13_init cX13_init 2 none d [.ref a0, .ref a1] σ (.inl ((eV).1 r, (eV).2 r)) := V_method (em := eV) [some (.ref a0), some (.ref a1)] (by decide +kernel) rfl (Nat.le_of_ble_eq_true rfl) (w_X13_init hd σ a0 a1) h
/-! NobodyBeenAft$Course.begin()LNobodyBeenAft$Course; -/
def f_X12_begin (σ : vMem) (a0 : Nat) : Option (Nat × vMem) := cko σ a0 [12, 13, 14, 15] (dr (gr σ a0 0) (fun b => bv (f_J11_fill σ b 100000000) (fun σ_1 => cko σ_1 a0 [12, 13, 14, 15] (dr (gr σ_1 a0 0) (fun b_1 => cko σ_1 a0 [12, 13, 14, 15] (dr (gr σ_1 a0 2) (fun b_2 => cko σ_1 b_2 [1] (dr (gr σ_1 b_2 0) (fun b_3 => cko σ_1 b_3 [2] (cka σ_1 b_1 105 (gi σ_1 b_3 5) (vl (si σ_1 b_1 (Int32.toNatClampNeg (gi σ_1 b_3 5)) 0) (fun σ_2 => some (a0, σ_2)))))))))))))
abbrev P_X12_begin (l : Launch) (d n0 s0 : Nat) : vX → Prop := vMP l yX12_begin cX12_begin 1 (some (.object "NobodyBeenAft$Course")) d n0 s0
theorem w_X12_begin {l : Launch} {d n0 s0 : Nat} (hd : 1 ≤ d) (σ : vMem) (a0 : Nat) : V (P_X12_begin l d n0 s0) (vEmb eA) σ 0 [some (.ref a0)] [] (f_X12_begin σ a0) := by
  have hC : vPx (P_X12_begin l d n0 s0) cX12_begin 1 "NobodyBeenAft$Course" (some (.object "NobodyBeenAft$Course")) d := vMP_cx
  refine V_eq (f_X12_begin.eq_1 ..) ?_
  refine V_aload_n hC dX12_begin_0 rfl ?_
  refine g_X12_15 hC dX12_begin_1 (fun b => ?_)
  refine V_ldc hC dX12_begin_4 q872 ?_
  refine V_callS_V (As := [.ref b, .int 100000000]) (rest := []) (d' := 0) hC dX12_begin_6 2 (lw_S q873 q874 q110 q875) (by decide +kernel) rfl rfl (Nat.le_of_ble_eq_true rfl) (Nat.le_trans (by decide) hd) (by decide) vMP_l (fun _ h => c_J11_fill (Nat.le_refl _) h) (fun σ_1 => ?_)
  refine V_aload_n hC dX12_begin_9 rfl ?_
  refine g_X12_15 hC dX12_begin_10 (fun b_1 => ?_)
  refine V_aload_n hC dX12_begin_13 rfl ?_
  refine g_X12_3 hC dX12_begin_14 (fun b_2 => ?_)
  refine g_X12_29 hC dX12_begin_17 (fun b_3 => ?_)
  refine g_X12_33 hC dX12_begin_20 ?_
  refine V_iconst (v := 0) hC dX12_begin_23 rfl ?_
  refine V_iast hC dX12_begin_24 (fun σ_2 => ?_)
  refine V_aload_n hC dX12_begin_25 rfl ?_
  exact V_areturnA (Or.inl ⟨_, rfl⟩) dX12_begin_26 rfl rfl
theorem c_X12_begin {l : Launch} {d : Nat} (hd : 1 ≤ d) {σ : vMem} {a0 : Nat} {r : Nat × vMem} (h : f_X12_begin σ a0 = some r) : vOk l yX12_begin cX12_begin 1 (some (.object "NobodyBeenAft$Course")) d [.ref a0] σ (.inl ((eA).1 r, (eA).2 r)) := V_method (em := eA) [some (.ref a0)] (by decide +kernel) rfl (Nat.le_of_ble_eq_true rfl) (w_X12_begin hd σ a0) h
/-! NobodyBeenAft$Course.helm(IZ)V -/
def f_X12_helm_20 (a0 : Nat) (x1 : Int32) (x2 : Int32) (v3 : Int32) (k_1 : vMem → Option (vMem)) : Nat → vMem → Int32 → Option (vMem)
  | 0, _, _ => none
  | n_1 + 1, σ_7, v4 => if 1 < v4 then (k_1 σ_7) else bp (f_X1_has σ_7 x1 (v4 + 1)) (fun r => vl (fun (σ_8 : vMem) => vl (v4 + 1) (fun v4_1 => f_X12_helm_20 a0 x1 x2 v3 k_1 n_1 σ_8 v4_1)) (fun k_2 => if ¬ r = 0 then (vl (fun (y : Int32) => bp (f_X1_clamp σ_7 (v3 + y)) (fun r_1 => cko σ_7 a0 [12, 13, 14, 15] (dr (gr σ_7 a0 1) (fun b_3 => cko σ_7 a0 [12, 13, 14, 15] (dr (gr σ_7 a0 1) (fun b_4 => cka σ_7 b_4 105 r_1 (cko σ_7 a0 [12, 13, 14, 15] (dr (gr σ_7 a0 0) (fun b_5 => cka σ_7 b_5 105 v3 (vl (fun (y_1 : Int32) => cka σ_7 b_3 105 r_1 (vl (si σ_7 b_3 (Int32.toNatClampNeg r_1) (imin (gi σ_7 b_4 (Int32.toNatClampNeg r_1)) ((gi σ_7 b_5 (Int32.toNatClampNeg v3)) + y_1))) (fun σ_9 => k_2 σ_9))) (fun k_4 => vl (k_4 0) (fun k_5 => if x2 = 0 then k_5 else if v4 = 0 then k_5 else k_4 1)))))))))))) (fun k_3 => if x2 = 0 then (k_3 v4) else cko σ_7 a0 [12, 13, 14, 15] (dr (gr σ_7 a0 2) (fun b_6 => cko σ_7 b_6 [1] (bp (f_X1_turned σ_7 b_6 v4) (fun r_2 => k_3 r_2)))))) else k_2 σ_7))
def f_X12_helm_11 (a0 : Nat) (x1 : Int32) (x2 : Int32) (k : vMem → Option (vMem)) : Nat → vMem → Int32 → Option (vMem)
  | 0, _, _ => none
  | n + 1, σ_5, v3 => if 9 ≤ v3 then (k σ_5) else vl (fun (σ_6 : vMem) => vl (v3 + 1) (fun v3_1 => f_X12_helm_11 a0 x1 x2 k n σ_6 v3_1)) (fun k_1 => f_X12_helm_20 a0 x1 x2 v3 k_1 FU σ_5 (-1))
def f_X12_helm (σ : vMem) (a0 : Nat) (x1 : Int32) (x2 : Int32) : Option (vMem) := cko σ a0 [12, 13, 14, 15] (dr (gr σ a0 1) (fun b => bv (f_J11_fill σ b 100000000) (fun σ_1 => vl (fun (σ_2 : vMem) => cko σ_2 a0 [12, 13, 14, 15] (dr (gr σ_2 a0 0) (fun b_1 => cko σ_2 a0 [12, 13, 14, 15] (dr (gr σ_2 a0 1) (fun b_2 => cko σ_2 a0 [12, 13, 14, 15] (vl (sr σ_2 a0 0 (some b_2)) (fun σ_3 => cko σ_3 a0 [12, 13, 14, 15] (vl (sr σ_3 a0 1 (some b_1)) (fun σ_4 => some σ_4))))))))) (fun k => f_X12_helm_11 a0 x1 x2 k FU σ_1 0))))
abbrev P_X12_helm (l : Launch) (d n0 s0 : Nat) : vX → Prop := vMP l yX12_helm cX12_helm 6 none d n0 s0
theorem w_X12_helm_20 {l : Launch} {d n0 s0 : Nat} (hd : 2 ≤ d) (a0 : Nat) (x1 : Int32) (x2 : Int32) (v3 : Int32) (k_1 : vMem → Option (vMem)) (hk_1 : ∀ (σ_6 : vMem), V (P_X12_helm l d n0 s0) (vEmb eV) σ_6 109 [some (.ref a0), some (.int x1), some (.int x2), some (.int v3), none, none] [] (k_1 σ_6)) : ∀ (n_1 : Nat) (σ_7 : vMem) (v4 : Int32), V (P_X12_helm l d n0 s0) (vEmb eV) σ_7 20 [some (.ref a0), some (.int x1), some (.int x2), some (.int v3), some (.int v4), none] [] (f_X12_helm_20 a0 x1 x2 v3 k_1 n_1 σ_7 v4) := by
  have hC : vPx (P_X12_helm l d n0 s0) cX12_helm 6 "NobodyBeenAft$Course" none d := vMP_cx
  intro n_1
  induction n_1 with
  | zero =>
    intro σ_7 v4
    exact V_none
  | succ n_1 ih =>
    intro σ_7 v4
    refine V_eq (f_X12_helm_20.eq_2 ..) ?_
    refine V_iload hC dX12_helm_20 rfl ?_
    refine V_iconst (v := 1) hC dX12_helm_22 rfl ?_
    refine V_icmp_gt (tgt := 109) hC dX12_helm_23 (by decide) ?_ ?_
    · refine V_clr [4] (ls' := [some (.ref a0), some (.int x1), some (.int x2), some (.int v3), none, none]) rfl ?_
      exact hk_1 σ_7
    · refine V_iload_n hC dX12_helm_26 rfl ?_
      refine V_iload hC dX12_helm_27 rfl ?_
      refine V_iconst (v := 1) hC dX12_helm_29 rfl ?_
      refine V_iadd hC dX12_helm_30 ?_
      refine V_callSN_PI (As := [.int x1, .int (v4 + 1)]) (rest := []) (d' := 0) hC dX12_helm_31 2 q894 q85 q892 q893 (by decide +kernel) rfl rfl (Nat.le_of_ble_eq_true rfl) (Nat.le_trans (by decide) hd) (by decide) vMP_l (fun _ h => c_X1_has (Nat.le_refl _) h) (fun r => ?_)
      refine V_let (B := fun k_2 => ∀ (σ_8 : vMem), V (P_X12_helm l d n0 s0) (vEmb eV) σ_8 103 [some (.ref a0), some (.int x1), some (.int x2), some (.int v3), some (.int v4), none] [] (k_2 σ_8)) ?_ ?_
      · intro σ_8
        refine V_iincL (v := v4 + 1) (ls' := fun v4_1 => [some (.ref a0), some (.int x1), some (.int x2), some (.int v3), some (.int v4_1), none]) hC dX12_helm_103 rfl (by decide) rfl rfl (fun _ => rfl) (fun v4_1 => ?_)
        refine V_goto (tgt := 20) hC dX12_helm_106 (by decide) ?_
        exact ih σ_8 v4_1
      · intro k_2 hk_2
        refine V_if_ne (tgt := 40) hC dX12_helm_34 (by decide) ?_ ?_
        · refine V_iload_n hC dX12_helm_40 rfl ?_
          refine V_iload_n hC dX12_helm_41 rfl ?_
          refine V_let (B := fun k_3 => ∀ (y : Int32), V (P_X12_helm l d n0 s0) (vEmb eV) σ_7 59 [some (.ref a0), some (.int x1), some (.int x2), some (.int v3), some (.int v4), none] [.int y, .int v3] (k_3 y)) ?_ ?_
          · intro y
            refine V_iadd hC dX12_helm_59 ?_
            refine V_callSN_PI (As := [.int (v3 + y)]) (rest := []) (d' := 0) hC dX12_helm_60 1 q763 q85 q896 q762 (by decide +kernel) rfl rfl (Nat.le_of_ble_eq_true rfl) (Nat.le_trans (by decide) hd) (by decide) vMP_l (fun _ h => c_X1_clamp (Nat.le_refl _) h) (fun r_1 => ?_)
            refine V_istore (ls' := [some (.ref a0), some (.int x1), some (.int x2), some (.int v3), some (.int v4), some (.int r_1)]) hC dX12_helm_63 (by decide) rfl rfl ?_
            refine V_aload_n hC dX12_helm_65 rfl ?_
            refine g_X12_19 hC dX12_helm_66 (fun b_3 => ?_)
            refine V_iload hC dX12_helm_69 rfl ?_
            refine V_aload_n hC dX12_helm_71 rfl ?_
            refine g_X12_19 hC dX12_helm_72 (fun b_4 => ?_)
            refine V_iload hC dX12_helm_75 rfl ?_
            refine V_iald hC dX12_helm_77 ?_
            refine V_aload_n hC dX12_helm_78 rfl ?_
            refine g_X12_15 hC dX12_helm_79 (fun b_5 => ?_)
            refine V_iload_n hC dX12_helm_82 rfl ?_
            refine V_iald hC dX12_helm_83 ?_
            refine V_iload_n hC dX12_helm_84 rfl ?_
            refine V_let (B := fun k_4 => ∀ (y_1 : Int32), V (P_X12_helm l d n0 s0) (vEmb eV) σ_7 98 [some (.ref a0), some (.int x1), some (.int x2), some (.int v3), some (.int v4), none] [.int y_1, .int (gi σ_7 b_5 (Int32.toNatClampNeg v3)), .int (gi σ_7 b_4 (Int32.toNatClampNeg r_1)), .int r_1, .ref b_3] (k_4 y_1)) ?_ ?_
            · intro y_1
              refine V_iadd hC dX12_helm_98 ?_
              refine V_mmin hC dX12_helm_99 q897 q327 q90 q328 (Nat.le_of_ble_eq_true rfl) ?_
              refine V_iast hC dX12_helm_102 (fun σ_9 => ?_)
              exact hk_2 σ_9
            · intro k_4 hk_4
              refine V_let (B := fun k_5 => V (P_X12_helm l d n0 s0) (vEmb eV) σ_7 97 [some (.ref a0), some (.int x1), some (.int x2), some (.int v3), some (.int v4), none] [.int (gi σ_7 b_5 (Int32.toNatClampNeg v3)), .int (gi σ_7 b_4 (Int32.toNatClampNeg r_1)), .int r_1, .ref b_3] (k_5)) ?_ ?_
              · skip
                refine V_iconst (v := 0) hC dX12_helm_97 rfl ?_
                exact hk_4 0
              · intro k_5 hk_5
                refine V_if_eq (tgt := 97) hC dX12_helm_85 (by decide) ?_ ?_
                · refine V_clr [5] (ls' := [some (.ref a0), some (.int x1), some (.int x2), some (.int v3), some (.int v4), none]) rfl ?_
                  exact hk_5
                · refine V_iload hC dX12_helm_88 rfl ?_
                  refine V_if_eq (tgt := 97) hC dX12_helm_90 (by decide) ?_ ?_
                  · refine V_clr [5] (ls' := [some (.ref a0), some (.int x1), some (.int x2), some (.int v3), some (.int v4), none]) rfl ?_
                    exact hk_5
                  · refine V_iconst (v := 1) hC dX12_helm_93 rfl ?_
                    refine V_goto (tgt := 98) hC dX12_helm_94 (by decide) ?_
                    refine V_clr [5] (ls' := [some (.ref a0), some (.int x1), some (.int x2), some (.int v3), some (.int v4), none]) rfl ?_
                    exact hk_4 1
          · intro k_3 hk_3
            refine V_if_eq (tgt := 57) hC dX12_helm_42 (by decide) ?_ ?_
            · refine V_iload hC dX12_helm_57 rfl ?_
              exact hk_3 v4
            · refine V_aload_n hC dX12_helm_45 rfl ?_
              refine g_X12_3 hC dX12_helm_46 (fun b_6 => ?_)
              refine V_iload hC dX12_helm_49 rfl ?_
              refine V_cko (fun hm => V_callVN_PI (As := [.int v4]) (rest := [.int v3]) (d' := 1) hC dX12_helm_51 1 q717 q85 q895 q716 qs10 (by decide +kernel) (List.mem_singleton.mp hm) (by decide) (by decide) rfl rfl rfl (Nat.le_of_ble_eq_true rfl) (Nat.le_trans (by decide) hd) (by decide) vMP_l (fun _ h => c_X1_turned (Nat.le_refl _) h) (fun r_2 => ?_))
              refine V_goto (tgt := 59) hC dX12_helm_54 (by decide) ?_
              exact hk_3 r_2
        · refine V_goto (tgt := 103) hC dX12_helm_37 (by decide) ?_
          exact hk_2 σ_7
theorem w_X12_helm_11 {l : Launch} {d n0 s0 : Nat} (hd : 2 ≤ d) (a0 : Nat) (x1 : Int32) (x2 : Int32) (k : vMem → Option (vMem)) (hk : ∀ (σ_2 : vMem), V (P_X12_helm l d n0 s0) (vEmb eV) σ_2 115 [some (.ref a0), none, none, none, none, none] [] (k σ_2)) : ∀ (n : Nat) (σ_5 : vMem) (v3 : Int32), V (P_X12_helm l d n0 s0) (vEmb eV) σ_5 11 [some (.ref a0), some (.int x1), some (.int x2), some (.int v3), none, none] [] (f_X12_helm_11 a0 x1 x2 k n σ_5 v3) := by
  have hC : vPx (P_X12_helm l d n0 s0) cX12_helm 6 "NobodyBeenAft$Course" none d := vMP_cx
  intro n
  induction n with
  | zero =>
    intro σ_5 v3
    exact V_none
  | succ n ih =>
    intro σ_5 v3
    refine V_eq (f_X12_helm_11.eq_2 ..) ?_
    refine V_iload_n hC dX12_helm_11 rfl ?_
    refine V_bipush (v := 9) hC dX12_helm_12 rfl ?_
    refine V_icmp_ge (tgt := 115) hC dX12_helm_14 (by decide) ?_ ?_
    · refine V_clr [1, 2, 3] (ls' := [some (.ref a0), none, none, none, none, none]) rfl ?_
      exact hk σ_5
    · refine V_iconst (v := (-1)) hC dX12_helm_17 rfl ?_
      refine V_istore (ls' := [some (.ref a0), some (.int x1), some (.int x2), some (.int v3), some (.int (-1)), none]) hC dX12_helm_18 (by decide) rfl rfl ?_
      refine V_let (B := fun k_1 => ∀ (σ_6 : vMem), V (P_X12_helm l d n0 s0) (vEmb eV) σ_6 109 [some (.ref a0), some (.int x1), some (.int x2), some (.int v3), none, none] [] (k_1 σ_6)) ?_ ?_
      · intro σ_6
        refine V_iincL (v := v3 + 1) (ls' := fun v3_1 => [some (.ref a0), some (.int x1), some (.int x2), some (.int v3_1), none, none]) hC dX12_helm_109 rfl (by decide) rfl rfl (fun _ => rfl) (fun v3_1 => ?_)
        refine V_goto (tgt := 11) hC dX12_helm_112 (by decide) ?_
        exact ih σ_6 v3_1
      · intro k_1 hk_1
        exact (w_X12_helm_20 hd a0 x1 x2 v3 k_1 hk_1) FU σ_5 (-1)
theorem w_X12_helm {l : Launch} {d n0 s0 : Nat} (hd : 2 ≤ d) (σ : vMem) (a0 : Nat) (x1 : Int32) (x2 : Int32) : V (P_X12_helm l d n0 s0) (vEmb eV) σ 0 [some (.ref a0), some (.int x1), some (.int x2), none, none, none] [] (f_X12_helm σ a0 x1 x2) := by
  have hC : vPx (P_X12_helm l d n0 s0) cX12_helm 6 "NobodyBeenAft$Course" none d := vMP_cx
  refine V_eq (f_X12_helm.eq_1 ..) ?_
  refine V_aload_n hC dX12_helm_0 rfl ?_
  refine g_X12_19 hC dX12_helm_1 (fun b => ?_)
  refine V_ldc hC dX12_helm_4 q872 ?_
  refine V_callS_V (As := [.ref b, .int 100000000]) (rest := []) (d' := 0) hC dX12_helm_6 2 (lw_S q873 q874 q110 q875) (by decide +kernel) rfl rfl (Nat.le_of_ble_eq_true rfl) (Nat.le_trans (by decide) hd) (by decide) vMP_l (fun _ h => c_J11_fill (Nat.le_refl _) h) (fun σ_1 => ?_)
  refine V_iconst (v := 0) hC dX12_helm_9 rfl ?_
  refine V_istore_n (ls' := [some (.ref a0), some (.int x1), some (.int x2), some (.int 0), none, none]) hC dX12_helm_10 (by decide) rfl rfl ?_
  refine V_let (B := fun k => ∀ (σ_2 : vMem), V (P_X12_helm l d n0 s0) (vEmb eV) σ_2 115 [some (.ref a0), none, none, none, none, none] [] (k σ_2)) ?_ ?_
  · intro σ_2
    refine V_aload_n hC dX12_helm_115 rfl ?_
    refine g_X12_15 hC dX12_helm_116 (fun b_1 => ?_)
    refine V_astore_n (ls' := [some (.ref a0), none, none, some (.ref b_1), none, none]) hC dX12_helm_119 (by decide) rfl rfl ?_
    refine V_aload_n hC dX12_helm_120 rfl ?_
    refine V_aload_n hC dX12_helm_121 rfl ?_
    refine g_X12_19 hC dX12_helm_122 (fun b_2 => ?_)
    refine p_X12_15 hC dX12_helm_125 (fun σ_3 => ?_)
    refine V_aload_n hC dX12_helm_128 rfl ?_
    refine V_aload_n hC dX12_helm_129 rfl ?_
    refine p_X12_19 hC dX12_helm_130 (fun σ_4 => ?_)
    exact V_return dX12_helm_133 rfl rfl
  · intro k hk
    exact (w_X12_helm_11 hd a0 x1 x2 k hk) FU σ_1 0
theorem c_X12_helm {l : Launch} {d : Nat} (hd : 2 ≤ d) {σ : vMem} {a0 : Nat} {x1 : Int32} {x2 : Int32} {r : vMem} (h : f_X12_helm σ a0 x1 x2 = some r) : vOk l yX12_helm cX12_helm 6 none d [.ref a0, .int x1, .int x2] σ (.inl ((eV).1 r, (eV).2 r)) := V_method (em := eV) [some (.ref a0), some (.int x1), some (.int x2), none, none, none] (by decide +kernel) rfl (Nat.le_of_ble_eq_true rfl) (w_X12_helm hd σ a0 x1 x2) h
/-! NobodyBeenAft$Course.may(I)I -/
def f_X12_may (σ : vMem) (a0 : Nat) (x1 : Int32) : Option (Int32) := vl (some 7) (fun k => if ¬ x1 = 0 then k else cko σ a0 [12, 13, 14, 15] (dr (gr σ a0 2) (fun b => cko σ b [1] (dr (gr σ b 0) (fun b_1 => cko σ b_1 [2] (cko σ a0 [12, 13, 14, 15] (dr (gr σ a0 2) (fun b_2 => cko σ b_2 [1] (dr (gr σ b_2 0) (fun b_3 => cko σ b_3 [2] (if ¬ (gi σ b_1 8) = (gi σ b_3 4) then k else some 2)))))))))))
abbrev P_X12_may (l : Launch) (d n0 s0 : Nat) : vX → Prop := vMP l yX12_may cX12_may 2 (some .int) d n0 s0
theorem w_X12_may {l : Launch} {d n0 s0 : Nat} (hd : 0 ≤ d) (σ : vMem) (a0 : Nat) (x1 : Int32) : V (P_X12_may l d n0 s0) (vEmb (ePI σ)) σ 0 [some (.ref a0), some (.int x1)] [] (f_X12_may σ a0 x1) := by
  have hC : vPx (P_X12_may l d n0 s0) cX12_may 2 "NobodyBeenAft$Course" (some .int) d := vMP_cx
  refine V_eq (f_X12_may.eq_1 ..) ?_
  refine V_iload_n hC dX12_may_0 rfl ?_
  refine V_let (B := fun k => V (P_X12_may l d n0 s0) (vEmb (ePI σ)) σ 31 [none, none] [] (k)) ?_ ?_
  · skip
    refine V_bipush (v := 7) hC dX12_may_31 rfl ?_
    exact V_ireturn dX12_may_33 rfl rfl
  · intro k hk
    refine V_if_ne (tgt := 31) hC dX12_may_1 (by decide) ?_ ?_
    · refine V_clr [0, 1] (ls' := [none, none]) rfl ?_
      exact hk
    · refine V_aload_n hC dX12_may_4 rfl ?_
      refine g_X12_3 hC dX12_may_5 (fun b => ?_)
      refine g_X12_29 hC dX12_may_8 (fun b_1 => ?_)
      refine g_X12_39 hC dX12_may_11 ?_
      refine V_aload_n hC dX12_may_14 rfl ?_
      refine g_X12_3 hC dX12_may_15 (fun b_2 => ?_)
      refine g_X12_29 hC dX12_may_18 (fun b_3 => ?_)
      refine g_X12_42 hC dX12_may_21 ?_
      refine V_icmp_ne (tgt := 31) hC dX12_may_24 (by decide) ?_ ?_
      · refine V_clr [0, 1] (ls' := [none, none]) rfl ?_
        exact hk
      · refine V_iconst (v := 2) hC dX12_may_27 rfl ?_
        refine V_goto (tgt := 33) hC dX12_may_28 (by decide) ?_
        exact V_ireturn dX12_may_33 rfl rfl
theorem c_X12_may {l : Launch} {d : Nat} (hd : 0 ≤ d) {σ : vMem} {a0 : Nat} {x1 : Int32} {r : Int32} (h : f_X12_may σ a0 x1 = some r) : vOk l yX12_may cX12_may 2 (some .int) d [.ref a0, .int x1] σ (.inl (((ePI σ)).1 r, ((ePI σ)).2 r)) := V_method (em := (ePI σ)) [some (.ref a0), some (.int x1)] (by decide +kernel) rfl (Nat.le_of_ble_eq_true rfl) (w_X12_may hd σ a0 x1) h
/-! NobodyBeenAft$Told.may(I)I -/
def f_X14_may (σ : vMem) (a0 : Nat) (x1 : Int32) : Option (Int32) := cko σ a0 [14] (if (gi σ a0 4) ≤ x1 then (cko σ a0 [14] (bp (f_X12_may σ a0 x1) (fun r => some r))) else cko σ a0 [14] (dr (gr σ a0 3) (fun b => cka σ b 105 x1 (some (1 <<< (((gi σ b (Int32.toNatClampNeg x1)) + 1) &&& 31))))))
abbrev P_X14_may (l : Launch) (d n0 s0 : Nat) : vX → Prop := vMP l yX14_may cX14_may 2 (some .int) d n0 s0
theorem w_X14_may {l : Launch} {d n0 s0 : Nat} (hd : 1 ≤ d) (σ : vMem) (a0 : Nat) (x1 : Int32) : V (P_X14_may l d n0 s0) (vEmb (ePI σ)) σ 0 [some (.ref a0), some (.int x1)] [] (f_X14_may σ a0 x1) := by
  have hC : vPx (P_X14_may l d n0 s0) cX14_may 2 "NobodyBeenAft$Told" (some .int) d := vMP_cx
  refine V_eq (f_X14_may.eq_1 ..) ?_
  refine V_iload_n hC dX14_may_0 rfl ?_
  refine V_aload_n hC dX14_may_1 rfl ?_
  refine g_X14_19 hC dX14_may_2 ?_
  refine V_icmp_ge (tgt := 21) hC dX14_may_5 (by decide) ?_ ?_
  · refine V_aload_n hC dX14_may_21 rfl ?_
    refine V_iload_n hC dX14_may_22 rfl ?_
    refine V_cko (fun hm => V_callSU_PI (c := 14) (C := "NobodyBeenAft$Told") (As := [.int x1]) (rest := []) (d' := 0) hC dX14_may_23 1 (lw_app (List.forall_mem_cons.mpr ⟨q914, List.forall_mem_cons.mpr ⟨q903, List.forall_mem_cons.mpr ⟨q915, List.forall_mem_cons.mpr ⟨q901, List.forall_mem_cons.mpr ⟨q108, fun _ h => absurd h List.not_mem_nil⟩⟩⟩⟩⟩) (lw_meth q909)) (by decide +kernel) (List.mem_singleton.mp hm) (by decide) (by decide) rfl rfl rfl (Nat.le_of_ble_eq_true rfl) (Nat.le_trans (by decide) hd) (by decide) vMP_l (fun _ h => c_X12_may (Nat.le_refl _) h) (fun r => ?_))
    exact V_ireturn dX14_may_26 rfl rfl
  · refine V_iconst (v := 1) hC dX14_may_8 rfl ?_
    refine V_aload_n hC dX14_may_9 rfl ?_
    refine g_X14_15 hC dX14_may_10 (fun b => ?_)
    refine V_iload_n hC dX14_may_13 rfl ?_
    refine V_iald hC dX14_may_14 ?_
    refine V_iconst (v := 1) hC dX14_may_15 rfl ?_
    refine V_iadd hC dX14_may_16 ?_
    refine V_ishl hC dX14_may_17 ?_
    refine V_goto (tgt := 26) hC dX14_may_18 (by decide) ?_
    exact V_ireturn dX14_may_26 rfl rfl
theorem c_X14_may {l : Launch} {d : Nat} (hd : 1 ≤ d) {σ : vMem} {a0 : Nat} {x1 : Int32} {r : Int32} (h : f_X14_may σ a0 x1 = some r) : vOk l yX14_may cX14_may 2 (some .int) d [.ref a0, .int x1] σ (.inl (((ePI σ)).1 r, ((ePI σ)).2 r)) := V_method (em := (ePI σ)) [some (.ref a0), some (.int x1)] (by decide +kernel) rfl (Nat.le_of_ble_eq_true rfl) (w_X14_may hd σ a0 x1) h
/-! NobodyBeenAft$Late.may(I)I -/
def f_X15_may (σ : vMem) (a0 : Nat) (x1 : Int32) : Option (Int32) := cko σ a0 [15] (if (gi σ a0 3) ≤ x1 then (cko σ a0 [15] (bp (f_X12_may σ a0 x1) (fun r => some r))) else some 2)
abbrev P_X15_may (l : Launch) (d n0 s0 : Nat) : vX → Prop := vMP l yX15_may cX15_may 2 (some .int) d n0 s0
theorem w_X15_may {l : Launch} {d n0 s0 : Nat} (hd : 1 ≤ d) (σ : vMem) (a0 : Nat) (x1 : Int32) : V (P_X15_may l d n0 s0) (vEmb (ePI σ)) σ 0 [some (.ref a0), some (.int x1)] [] (f_X15_may σ a0 x1) := by
  have hC : vPx (P_X15_may l d n0 s0) cX15_may 2 "NobodyBeenAft$Late" (some .int) d := vMP_cx
  refine V_eq (f_X15_may.eq_1 ..) ?_
  refine V_iload_n hC dX15_may_0 rfl ?_
  refine V_aload_n hC dX15_may_1 rfl ?_
  refine g_X15_13 hC dX15_may_2 ?_
  refine V_icmp_ge (tgt := 12) hC dX15_may_5 (by decide) ?_ ?_
  · refine V_aload_n hC dX15_may_12 rfl ?_
    refine V_iload_n hC dX15_may_13 rfl ?_
    refine V_cko (fun hm => V_callSU_PI (c := 15) (C := "NobodyBeenAft$Late") (As := [.int x1]) (rest := []) (d' := 0) hC dX15_may_14 1 (lw_app (List.forall_mem_cons.mpr ⟨q907, List.forall_mem_cons.mpr ⟨q903, List.forall_mem_cons.mpr ⟨q908, List.forall_mem_cons.mpr ⟨q901, List.forall_mem_cons.mpr ⟨q108, fun _ h => absurd h List.not_mem_nil⟩⟩⟩⟩⟩) (lw_meth q909)) (by decide +kernel) (List.mem_singleton.mp hm) (by decide) (by decide) rfl rfl rfl (Nat.le_of_ble_eq_true rfl) (Nat.le_trans (by decide) hd) (by decide) vMP_l (fun _ h => c_X12_may (Nat.le_refl _) h) (fun r => ?_))
    exact V_ireturn dX15_may_17 rfl rfl
  · refine V_iconst (v := 2) hC dX15_may_8 rfl ?_
    refine V_goto (tgt := 17) hC dX15_may_9 (by decide) ?_
    exact V_ireturn dX15_may_17 rfl rfl
theorem c_X15_may {l : Launch} {d : Nat} (hd : 1 ≤ d) {σ : vMem} {a0 : Nat} {x1 : Int32} {r : Int32} (h : f_X15_may σ a0 x1 = some r) : vOk l yX15_may cX15_may 2 (some .int) d [.ref a0, .int x1] σ (.inl (((ePI σ)).1 r, ((ePI σ)).2 r)) := V_method (em := (ePI σ)) [some (.ref a0), some (.int x1)] (by decide +kernel) rfl (Nat.le_of_ble_eq_true rfl) (w_X15_may hd σ a0 x1) h
/-! NobodyBeenAft$Course.isBarred(II)Z -/
def f_X12_isBarred (σ : vMem) (a0 : Nat) (x1 : Int32) (x2 : Int32) : Option (Int32) := cko σ a0 [12, 13, 14, 15] (dr (gr σ a0 2) (fun b => cko σ b [1] (bp (f_X1_hitsAt σ b x1 x2) (fun r => if r ≤ 0 then (some 0) else some 1))))
abbrev P_X12_isBarred (l : Launch) (d n0 s0 : Nat) : vX → Prop := vMP l yX12_isBarred cX12_isBarred 3 (some .boolean) d n0 s0
theorem w_X12_isBarred {l : Launch} {d n0 s0 : Nat} (hd : 1 ≤ d) (σ : vMem) (a0 : Nat) (x1 : Int32) (x2 : Int32) : V (P_X12_isBarred l d n0 s0) (vEmb (ePI σ)) σ 0 [some (.ref a0), some (.int x1), some (.int x2)] [] (f_X12_isBarred σ a0 x1 x2) := by
  have hC : vPx (P_X12_isBarred l d n0 s0) cX12_isBarred 3 "NobodyBeenAft$Course" (some .boolean) d := vMP_cx
  refine V_eq (f_X12_isBarred.eq_1 ..) ?_
  refine V_aload_n hC dX12_isBarred_0 rfl ?_
  refine g_X12_3 hC dX12_isBarred_1 (fun b => ?_)
  refine V_iload_n hC dX12_isBarred_4 rfl ?_
  refine V_iload_n hC dX12_isBarred_5 rfl ?_
  refine V_cko (fun hm => V_callVN_PI (As := [.int x1, .int x2]) (rest := []) (d' := 0) hC dX12_isBarred_6 2 q767 q85 q926 q766 qs16 (by decide +kernel) (List.mem_singleton.mp hm) (by decide) (by decide) rfl rfl rfl (Nat.le_of_ble_eq_true rfl) (Nat.le_trans (by decide) hd) (by decide) vMP_l (fun _ h => c_X1_hitsAt (Nat.le_refl _) h) (fun r => ?_))
  refine V_if_le (tgt := 16) hC dX12_isBarred_9 (by decide) ?_ ?_
  · refine V_iconst (v := 0) hC dX12_isBarred_16 rfl ?_
    exact V_zreturn rfl dX12_isBarred_17 rfl rfl
  · refine V_iconst (v := 1) hC dX12_isBarred_12 rfl ?_
    refine V_goto (tgt := 17) hC dX12_isBarred_13 (by decide) ?_
    exact V_zreturn rfl dX12_isBarred_17 rfl rfl
theorem c_X12_isBarred {l : Launch} {d : Nat} (hd : 1 ≤ d) {σ : vMem} {a0 : Nat} {x1 : Int32} {x2 : Int32} {r : Int32} (h : f_X12_isBarred σ a0 x1 x2 = some r) : vOk l yX12_isBarred cX12_isBarred 3 (some .boolean) d [.ref a0, .int x1, .int x2] σ (.inl (((ePI σ)).1 r, ((ePI σ)).2 r)) := V_method (em := (ePI σ)) [some (.ref a0), some (.int x1), some (.int x2)] (by decide +kernel) rfl (Nat.le_of_ble_eq_true rfl) (w_X12_isBarred hd σ a0 x1 x2) h
/-! NobodyBeenAft$Open.isBarred(II)Z -/
def f_X13_isBarred (σ : vMem) (a0 : Nat) (x1 : Int32) (x2 : Int32) : Option (Int32) := some 0
abbrev P_X13_isBarred (l : Launch) (d n0 s0 : Nat) : vX → Prop := vMP l yX13_isBarred cX13_isBarred 3 (some .boolean) d n0 s0
theorem w_X13_isBarred {l : Launch} {d n0 s0 : Nat} (hd : 0 ≤ d) (σ : vMem) (a0 : Nat) (x1 : Int32) (x2 : Int32) : V (P_X13_isBarred l d n0 s0) (vEmb (ePI σ)) σ 0 [some (.ref a0), some (.int x1), some (.int x2)] [] (f_X13_isBarred σ a0 x1 x2) := by
  have hC : vPx (P_X13_isBarred l d n0 s0) cX13_isBarred 3 "NobodyBeenAft$Open" (some .boolean) d := vMP_cx
  refine V_eq (f_X13_isBarred.eq_1 ..) ?_
  refine V_iconst (v := 0) hC dX13_isBarred_0 rfl ?_
  exact V_zreturn rfl dX13_isBarred_1 rfl rfl
theorem c_X13_isBarred {l : Launch} {d : Nat} (hd : 0 ≤ d) {σ : vMem} {a0 : Nat} {x1 : Int32} {x2 : Int32} {r : Int32} (h : f_X13_isBarred σ a0 x1 x2 = some r) : vOk l yX13_isBarred cX13_isBarred 3 (some .boolean) d [.ref a0, .int x1, .int x2] σ (.inl (((ePI σ)).1 r, ((ePI σ)).2 r)) := V_method (em := (ePI σ)) [some (.ref a0), some (.int x1), some (.int x2)] (by decide +kernel) rfl (Nat.le_of_ble_eq_true rfl) (w_X13_isBarred hd σ a0 x1 x2) h
/-! NobodyBeenAft$Course.step(I)V -/
theorem k_X12_85 {α : Type} {P : vX → Prop} {emb : α → vRes} {cc : ByteArray} {nL : Nat} {ret : Option FieldType} {d : Nat} {σ : vMem} {pc : Nat} {ls : List (Option Value)} {st rest : List Value} {t0 : Option (Int32)} {f : Int32 → Option α} {l : Launch} {d' a : Nat} {As : List Value} (hC : vPx P cc nL "NobodyBeenAft$Course" ret d) (hdg : decode cc pc = .ok (.invokevirtual 85, 3)) (hm : knd σ a ∈ ([12, 13, 14, 15] : List Nat)) (hn : As.length = 2) (hst : st = As.reverse ++ .ref a :: rest) (hroom : (rest.map fun v => v.category).sum ≤ 8) (hd : d' + 1 ≤ d) (hl : ∀ X, P X → X.l = l) (h12 : knd σ a = 12 → ∀ r, t0 = some r → vOk l yX12_isBarred cX12_isBarred 3 (some .boolean) d' (.ref a :: As) σ (.inl ((ePI σ).1 r, (ePI σ).2 r))) (h13 : knd σ a = 13 → ∀ r, t0 = some r → vOk l yX13_isBarred cX13_isBarred 3 (some .boolean) d' (.ref a :: As) σ (.inl ((ePI σ).1 r, (ePI σ).2 r))) (h14 : knd σ a = 14 → ∀ r, t0 = some r → vOk l yX12_isBarred cX12_isBarred 3 (some .boolean) d' (.ref a :: As) σ (.inl ((ePI σ).1 r, (ePI σ).2 r))) (h15 : knd σ a = 15 → ∀ r, t0 = some r → vOk l yX12_isBarred cX12_isBarred 3 (some .boolean) d' (.ref a :: As) σ (.inl ((ePI σ).1 r, (ePI σ).2 r))) (kk : ∀ x, V P emb σ (pc + 3) ls (.int x :: rest) (f x)) : V P emb σ pc ls st (bp t0 f) := by
  simp only [List.mem_cons, List.not_mem_nil, or_false] at hm
  rcases hm with hk | hk | hk | hk
  · exact V_callV_PI (c := 12) hC hdg 2 (lw_V q916 q917 q918 q108 q925) (by decide +kernel) hk (by decide) (by decide) rfl hn hst hroom hd (by decide) hl (h12 hk) kk
  · exact V_callO_PI (C := "NobodyBeenAft$Open") (owner := "NobodyBeenAft$Course") (c := 13) hC hdg 2 (lw_app (List.forall_mem_cons.mpr ⟨q916, List.forall_mem_cons.mpr ⟨q919, List.forall_mem_cons.mpr ⟨q917, List.forall_mem_cons.mpr ⟨q921, List.forall_mem_cons.mpr ⟨q922, List.forall_mem_cons.mpr ⟨q109, fun _ h => absurd h List.not_mem_nil⟩⟩⟩⟩⟩⟩) (lw_meth q923)) q925 (by decide +kernel) hk (by decide) (by decide) rfl hn hst hroom hd (by decide) hl (h13 hk) kk
  · exact V_callU_PI (C := "NobodyBeenAft$Told") (owner := "NobodyBeenAft$Course") (c := 14) hC hdg 2 (lw_app (List.forall_mem_cons.mpr ⟨q916, List.forall_mem_cons.mpr ⟨q919, List.forall_mem_cons.mpr ⟨q924, List.forall_mem_cons.mpr ⟨q917, List.forall_mem_cons.mpr ⟨q108, fun _ h => absurd h List.not_mem_nil⟩⟩⟩⟩⟩) (lw_meth q925)) rfl (by decide +kernel) hk (by decide) (by decide) rfl hn hst hroom hd (by decide) hl (h14 hk) kk
  · exact V_callU_PI (C := "NobodyBeenAft$Late") (owner := "NobodyBeenAft$Course") (c := 15) hC hdg 2 (lw_app (List.forall_mem_cons.mpr ⟨q916, List.forall_mem_cons.mpr ⟨q919, List.forall_mem_cons.mpr ⟨q920, List.forall_mem_cons.mpr ⟨q917, List.forall_mem_cons.mpr ⟨q108, fun _ h => absurd h List.not_mem_nil⟩⟩⟩⟩⟩) (lw_meth q925)) rfl (by decide +kernel) hk (by decide) (by decide) rfl hn hst hroom hd (by decide) hl (h15 hk) kk
theorem k_X12_82 {α : Type} {P : vX → Prop} {emb : α → vRes} {cc : ByteArray} {nL : Nat} {ret : Option FieldType} {d : Nat} {σ : vMem} {pc : Nat} {ls : List (Option Value)} {st rest : List Value} {t0 : Option (Int32)} {f : Int32 → Option α} {l : Launch} {d' a : Nat} {As : List Value} (hC : vPx P cc nL "NobodyBeenAft$Course" ret d) (hdg : decode cc pc = .ok (.invokevirtual 82, 3)) (hm : knd σ a ∈ ([12, 13, 14, 15] : List Nat)) (hn : As.length = 1) (hst : st = As.reverse ++ .ref a :: rest) (hroom : (rest.map fun v => v.category).sum ≤ 8) (hd : d' + 1 ≤ d) (hl : ∀ X, P X → X.l = l) (h12 : knd σ a = 12 → ∀ r, t0 = some r → vOk l yX12_may cX12_may 2 (some .int) d' (.ref a :: As) σ (.inl ((ePI σ).1 r, (ePI σ).2 r))) (h13 : knd σ a = 13 → ∀ r, t0 = some r → vOk l yX12_may cX12_may 2 (some .int) d' (.ref a :: As) σ (.inl ((ePI σ).1 r, (ePI σ).2 r))) (h14 : knd σ a = 14 → ∀ r, t0 = some r → vOk l yX14_may cX14_may 2 (some .int) d' (.ref a :: As) σ (.inl ((ePI σ).1 r, (ePI σ).2 r))) (h15 : knd σ a = 15 → ∀ r, t0 = some r → vOk l yX15_may cX15_may 2 (some .int) d' (.ref a :: As) σ (.inl ((ePI σ).1 r, (ePI σ).2 r))) (kk : ∀ x, V P emb σ (pc + 3) ls (.int x :: rest) (f x)) : V P emb σ pc ls st (bp t0 f) := by
  simp only [List.mem_cons, List.not_mem_nil, or_false] at hm
  rcases hm with hk | hk | hk | hk
  · exact V_callV_PI (c := 12) hC hdg 1 (lw_V q900 q901 q902 q108 q909) (by decide +kernel) hk (by decide) (by decide) rfl hn hst hroom hd (by decide) hl (h12 hk) kk
  · exact V_callU_PI (C := "NobodyBeenAft$Open") (owner := "NobodyBeenAft$Course") (c := 13) hC hdg 1 (lw_app (List.forall_mem_cons.mpr ⟨q900, List.forall_mem_cons.mpr ⟨q903, List.forall_mem_cons.mpr ⟨q910, List.forall_mem_cons.mpr ⟨q901, List.forall_mem_cons.mpr ⟨q108, fun _ h => absurd h List.not_mem_nil⟩⟩⟩⟩⟩) (lw_meth q909)) rfl (by decide +kernel) hk (by decide) (by decide) rfl hn hst hroom hd (by decide) hl (h13 hk) kk
  · exact V_callO_PI (C := "NobodyBeenAft$Told") (owner := "NobodyBeenAft$Course") (c := 14) hC hdg 1 (lw_app (List.forall_mem_cons.mpr ⟨q900, List.forall_mem_cons.mpr ⟨q903, List.forall_mem_cons.mpr ⟨q901, List.forall_mem_cons.mpr ⟨q911, List.forall_mem_cons.mpr ⟨q912, List.forall_mem_cons.mpr ⟨q111, fun _ h => absurd h List.not_mem_nil⟩⟩⟩⟩⟩⟩) (lw_meth q913)) q909 (by decide +kernel) hk (by decide) (by decide) rfl hn hst hroom hd (by decide) hl (h14 hk) kk
  · exact V_callO_PI (C := "NobodyBeenAft$Late") (owner := "NobodyBeenAft$Course") (c := 15) hC hdg 1 (lw_app (List.forall_mem_cons.mpr ⟨q900, List.forall_mem_cons.mpr ⟨q903, List.forall_mem_cons.mpr ⟨q901, List.forall_mem_cons.mpr ⟨q904, List.forall_mem_cons.mpr ⟨q905, List.forall_mem_cons.mpr ⟨q112, fun _ h => absurd h List.not_mem_nil⟩⟩⟩⟩⟩⟩) (lw_meth q906)) q909 (by decide +kernel) hk (by decide) (by decide) rfl hn hst hroom hd (by decide) hl (h15 hk) kk
theorem k_X12_73 {α : Type} {P : vX → Prop} {emb : α → vRes} {cc : ByteArray} {nL : Nat} {ret : Option FieldType} {d : Nat} {σ : vMem} {pc : Nat} {ls : List (Option Value)} {st rest : List Value} {t0 : Option (vMem)} {f : vMem → Option α} {l : Launch} {d' a : Nat} {As : List Value} (hC : vPx P cc nL "NobodyBeenAft$Course" ret d) (hdg : decode cc pc = .ok (.invokevirtual 73, 3)) (hm : knd σ a ∈ ([12, 13, 14, 15] : List Nat)) (hn : As.length = 2) (hst : st = As.reverse ++ .ref a :: rest) (hroom : (rest.map fun v => v.category).sum ≤ 8) (hd : d' + 1 ≤ d) (hmL : (0 : Nat) ≤ 0) (hl : ∀ X, P X → X.l = l) (hM : ∀ r, t0 = some r → vOk l yX12_helm cX12_helm 6 none d' (.ref a :: As) σ (.inl (eV.1 r, eV.2 r))) (kk : ∀ σ1, V P emb σ1 (pc + 3) ls rest (f σ1)) : V P emb σ pc ls st (bv t0 f) := by
  simp only [List.mem_cons, List.not_mem_nil, or_false] at hm
  rcases hm with hk | hk | hk | hk
  · exact V_callV_V (c := 12) hC hdg 2 (lw_V q884 q885 q886 q108 q891) (by decide +kernel) hk (by decide) (by decide) rfl hn hst hroom hd (by decide) hl hM kk
  · exact V_callU_V (C := "NobodyBeenAft$Open") (owner := "NobodyBeenAft$Course") (c := 13) hC hdg 2 (lw_app (List.forall_mem_cons.mpr ⟨q884, List.forall_mem_cons.mpr ⟨q887, List.forall_mem_cons.mpr ⟨q889, List.forall_mem_cons.mpr ⟨q885, List.forall_mem_cons.mpr ⟨q108, fun _ h => absurd h List.not_mem_nil⟩⟩⟩⟩⟩) (lw_meth q891)) rfl (by decide +kernel) hk (by decide) (by decide) rfl hn hst hroom hd (by decide) hl hM kk
  · exact V_callU_V (C := "NobodyBeenAft$Told") (owner := "NobodyBeenAft$Course") (c := 14) hC hdg 2 (lw_app (List.forall_mem_cons.mpr ⟨q884, List.forall_mem_cons.mpr ⟨q887, List.forall_mem_cons.mpr ⟨q890, List.forall_mem_cons.mpr ⟨q885, List.forall_mem_cons.mpr ⟨q108, fun _ h => absurd h List.not_mem_nil⟩⟩⟩⟩⟩) (lw_meth q891)) rfl (by decide +kernel) hk (by decide) (by decide) rfl hn hst hroom hd (by decide) hl hM kk
  · exact V_callU_V (C := "NobodyBeenAft$Late") (owner := "NobodyBeenAft$Course") (c := 15) hC hdg 2 (lw_app (List.forall_mem_cons.mpr ⟨q884, List.forall_mem_cons.mpr ⟨q887, List.forall_mem_cons.mpr ⟨q888, List.forall_mem_cons.mpr ⟨q885, List.forall_mem_cons.mpr ⟨q108, fun _ h => absurd h List.not_mem_nil⟩⟩⟩⟩⟩) (lw_meth q891)) rfl (by decide +kernel) hk (by decide) (by decide) rfl hn hst hroom hd (by decide) hl hM kk
def f_X12_step_127 (a0 : Nat) (x1 : Int32) : Nat → vMem → Int32 → Option (vMem)
  | 0, _, _ => none
  | n + 1, σ_3, v2_1 => if 9 ≤ v2_1 then (some σ_3) else cko σ_3 a0 [12, 13, 14, 15] (dr (gr σ_3 a0 2) (fun b => cko σ_3 b [1] (dr (gr σ_3 b 0) (fun b_1 => cko σ_3 b_1 [2] (cko σ_3 a0 [12, 13, 14, 15] (bp (if knd σ_3 a0 = 12 then f_X12_isBarred σ_3 a0 ((gi σ_3 b_1 4) + x1) v2_1 else if knd σ_3 a0 = 13 then f_X13_isBarred σ_3 a0 ((gi σ_3 b_1 4) + x1) v2_1 else if knd σ_3 a0 = 14 then f_X12_isBarred σ_3 a0 ((gi σ_3 b_1 4) + x1) v2_1 else cko σ_3 a0 [15] (f_X12_isBarred σ_3 a0 ((gi σ_3 b_1 4) + x1) v2_1)) (fun r => vl (fun (σ_4 : vMem) => vl (v2_1 + 1) (fun v2_2 => f_X12_step_127 a0 x1 n σ_4 v2_2)) (fun k_2 => if r = 0 then (k_2 σ_3) else cko σ_3 a0 [12, 13, 14, 15] (dr (gr σ_3 a0 0) (fun b_2 => cka σ_3 b_2 105 v2_1 (vl (si σ_3 b_2 (Int32.toNatClampNeg v2_1) 100000000) (fun σ_5 => k_2 σ_5))))))))))))
def f_X12_step_79 (a0 : Nat) (x1 : Int32) (k_1 : vMem → Option (vMem)) : Nat → vMem → Int32 → Option (vMem)
  | 0, _, _ => none
  | n_1 + 1, σ_6, v2_3 => if x1 ≤ v2_3 then (k_1 σ_6) else cko σ_6 a0 [12, 13, 14, 15] (dr (gr σ_6 a0 2) (fun b_3 => cko σ_6 a0 [12, 13, 14, 15] (dr (gr σ_6 a0 2) (fun b_4 => cko σ_6 b_4 [1] (dr (gr σ_6 b_4 0) (fun b_5 => cko σ_6 b_5 [2] (cko σ_6 b_3 [1] (bd (f_X1_delayAt σ_6 b_3 ((gi σ_6 b_5 4) + v2_3)) (fun r_1 σ_7 => vl (fun (σ_8 : vMem) => vl (v2_3 + 1) (fun v2_4 => f_X12_step_79 a0 x1 k_1 n_1 σ_8 v2_4)) (fun k_3 => if ¬ (v2_3 + r_1) = x1 then (k_3 σ_7) else cko σ_7 a0 [12, 13, 14, 15] (bp (if knd σ_7 a0 = 12 then f_X12_may σ_7 a0 v2_3 else if knd σ_7 a0 = 13 then f_X12_may σ_7 a0 v2_3 else if knd σ_7 a0 = 14 then f_X14_may σ_7 a0 v2_3 else cko σ_7 a0 [15] (f_X15_may σ_7 a0 v2_3)) (fun r_2 => cko σ_7 a0 [12, 13, 14, 15] (bv (f_X12_helm σ_7 a0 r_2 1) (fun σ_9 => k_3 σ_9))))))))))))))
def f_X12_step_2 (a0 : Nat) (x1 : Int32) (k : vMem → Option (vMem)) : Nat → vMem → Int32 → Option (vMem)
  | 0, _, _ => none
  | n_2 + 1, σ_10, v2_5 => cko σ_10 a0 [12, 13, 14, 15] (dr (gr σ_10 a0 2) (fun b_6 => cko σ_10 b_6 [1] (dr (gr σ_10 b_6 0) (fun b_7 => cko σ_10 b_7 [2] (if (gi σ_10 b_7 7) ≤ v2_5 then (k σ_10) else cko σ_10 a0 [12, 13, 14, 15] (dr (gr σ_10 a0 2) (fun b_8 => cko σ_10 b_8 [1] (dr (gr σ_10 b_8 0) (fun b_9 => cko σ_10 b_9 [2] (dr (gr σ_10 b_9 2) (fun b_10 => cka σ_10 b_10 105 v2_5 (cko σ_10 a0 [12, 13, 14, 15] (dr (gr σ_10 a0 2) (fun b_11 => cko σ_10 b_11 [1] (dr (gr σ_10 b_11 0) (fun b_12 => cko σ_10 b_12 [2] (vl (fun (σ_11 : vMem) => vl (v2_5 + 1) (fun v2_6 => f_X12_step_2 a0 x1 k n_2 σ_11 v2_6)) (fun k_4 => if ¬ ((gi σ_10 b_10 (Int32.toNatClampNeg v2_5)) - (gi σ_10 b_12 4)) = x1 then (k_4 σ_10) else cko σ_10 a0 [12, 13, 14, 15] (dr (gr σ_10 a0 2) (fun b_13 => cko σ_10 b_13 [1] (dr (gr σ_10 b_13 0) (fun b_14 => cko σ_10 b_14 [2] (dr (gr σ_10 b_14 3) (fun b_15 => cka σ_10 b_15 105 v2_5 (cko σ_10 a0 [12, 13, 14, 15] (bv (f_X12_helm σ_10 a0 (1 <<< (((gi σ_10 b_15 (Int32.toNatClampNeg v2_5)) + 1) &&& 31)) 0) (fun σ_12 => k_4 σ_12)))))))))))))))))))))))))))
def f_X12_step (σ : vMem) (a0 : Nat) (x1 : Int32) : Option (vMem) := vl (fun (σ_1 : vMem) => vl (imax 0 (x1 - 12)) (fun v2 => vl (fun (σ_2 : vMem) => f_X12_step_127 a0 x1 FU σ_2 0) (fun k_1 => f_X12_step_79 a0 x1 k_1 FU σ_1 v2))) (fun k => f_X12_step_2 a0 x1 k FU σ 0)
abbrev P_X12_step (l : Launch) (d n0 s0 : Nat) : vX → Prop := vMP l yX12_step cX12_step 3 none d n0 s0
theorem w_X12_step_127 {l : Launch} {d n0 s0 : Nat} (hd : 610 ≤ d) (h0 : l.stackTraces = false) (a0 : Nat) (x1 : Int32)  : ∀ (n : Nat) (σ_3 : vMem) (v2_1 : Int32), V (P_X12_step l d n0 s0) (vEmb eV) σ_3 127 [some (.ref a0), some (.int x1), some (.int v2_1)] [] (f_X12_step_127 a0 x1 n σ_3 v2_1) := by
  have hC : vPx (P_X12_step l d n0 s0) cX12_step 3 "NobodyBeenAft$Course" none d := vMP_cx
  intro n
  induction n with
  | zero =>
    intro σ_3 v2_1
    exact V_none
  | succ n ih =>
    intro σ_3 v2_1
    refine V_eq (f_X12_step_127.eq_2 ..) ?_
    refine V_iload_n hC dX12_step_127 rfl ?_
    refine V_bipush (v := 9) hC dX12_step_128 rfl ?_
    refine V_icmp_ge (tgt := 167) hC dX12_step_130 (by decide) ?_ ?_
    · exact V_return dX12_step_167 rfl rfl
    · refine V_aload_n hC dX12_step_133 rfl ?_
      refine V_aload_n hC dX12_step_134 rfl ?_
      refine g_X12_3 hC dX12_step_135 (fun b => ?_)
      refine g_X12_29 hC dX12_step_138 (fun b_1 => ?_)
      refine g_X12_42 hC dX12_step_141 ?_
      refine V_iload_n hC dX12_step_144 rfl ?_
      refine V_iadd hC dX12_step_145 ?_
      refine V_iload_n hC dX12_step_146 rfl ?_
      refine V_cko (fun hm => k_X12_85 (As := [.int ((gi σ_3 b_1 4) + x1), .int v2_1]) (rest := []) (d' := 1) hC dX12_step_147 hm rfl rfl (Nat.le_of_ble_eq_true rfl) (Nat.le_trans (by decide) hd) vMP_l (fun hk9 _ h => c_X12_isBarred (by decide) (by simpa [hk9, cko] using h)) (fun hk9 _ h => c_X13_isBarred (by decide) (by simpa [hk9, cko] using h)) (fun hk9 _ h => c_X12_isBarred (by decide) (by simpa [hk9, cko] using h)) (fun hk9 _ h => c_X12_isBarred (by decide) (by simpa [hk9, cko] using h)) (fun r => ?_))
      refine V_let (B := fun k_2 => ∀ (σ_4 : vMem), V (P_X12_step l d n0 s0) (vEmb eV) σ_4 161 [some (.ref a0), some (.int x1), some (.int v2_1)] [] (k_2 σ_4)) ?_ ?_
      · intro σ_4
        refine V_iincL (v := v2_1 + 1) (ls' := fun v2_2 => [some (.ref a0), some (.int x1), some (.int v2_2)]) hC dX12_step_161 rfl (by decide) rfl rfl (fun _ => rfl) (fun v2_2 => ?_)
        refine V_goto (tgt := 127) hC dX12_step_164 (by decide) ?_
        exact ih σ_4 v2_2
      · intro k_2 hk_2
        refine V_if_eq (tgt := 161) hC dX12_step_150 (by decide) ?_ ?_
        · exact hk_2 σ_3
        · refine V_aload_n hC dX12_step_153 rfl ?_
          refine g_X12_15 hC dX12_step_154 (fun b_2 => ?_)
          refine V_iload_n hC dX12_step_157 rfl ?_
          refine V_ldc hC dX12_step_158 q872 ?_
          refine V_iast hC dX12_step_160 (fun σ_5 => ?_)
          exact hk_2 σ_5
theorem w_X12_step_79 {l : Launch} {d n0 s0 : Nat} (hd : 610 ≤ d) (h0 : l.stackTraces = false) (a0 : Nat) (x1 : Int32) (k_1 : vMem → Option (vMem)) (hk_1 : ∀ (σ_2 : vMem), V (P_X12_step l d n0 s0) (vEmb eV) σ_2 125 [some (.ref a0), some (.int x1), none] [] (k_1 σ_2)) : ∀ (n_1 : Nat) (σ_6 : vMem) (v2_3 : Int32), V (P_X12_step l d n0 s0) (vEmb eV) σ_6 79 [some (.ref a0), some (.int x1), some (.int v2_3)] [] (f_X12_step_79 a0 x1 k_1 n_1 σ_6 v2_3) := by
  have hC : vPx (P_X12_step l d n0 s0) cX12_step 3 "NobodyBeenAft$Course" none d := vMP_cx
  intro n_1
  induction n_1 with
  | zero =>
    intro σ_6 v2_3
    exact V_none
  | succ n_1 ih =>
    intro σ_6 v2_3
    refine V_eq (f_X12_step_79.eq_2 ..) ?_
    refine V_iload_n hC dX12_step_79 rfl ?_
    refine V_iload_n hC dX12_step_80 rfl ?_
    refine V_icmp_ge (tgt := 125) hC dX12_step_81 (by decide) ?_ ?_
    · refine V_clr [2] (ls' := [some (.ref a0), some (.int x1), none]) rfl ?_
      exact hk_1 σ_6
    · refine V_iload_n hC dX12_step_84 rfl ?_
      refine V_aload_n hC dX12_step_85 rfl ?_
      refine g_X12_3 hC dX12_step_86 (fun b_3 => ?_)
      refine V_aload_n hC dX12_step_89 rfl ?_
      refine g_X12_3 hC dX12_step_90 (fun b_4 => ?_)
      refine g_X12_29 hC dX12_step_93 (fun b_5 => ?_)
      refine g_X12_42 hC dX12_step_96 ?_
      refine V_iload_n hC dX12_step_99 rfl ?_
      refine V_iadd hC dX12_step_100 ?_
      refine V_cko (fun hm => V_callVN_I (As := [.int ((gi σ_6 b_5 4) + v2_3)]) (rest := [.int v2_3]) (d' := 609) hC dX12_step_101 1 q687 q85 q899 q686 qs7 (by decide +kernel) (List.mem_singleton.mp hm) (by decide) (by decide) rfl rfl rfl (Nat.le_of_ble_eq_true rfl) (Nat.le_trans (by decide) hd) (by decide) vMP_l (fun _ h => c_X1_delayAt (Nat.le_refl _) h0 h) (fun r_1 σ_7 => ?_))
      refine V_iadd hC dX12_step_104 ?_
      refine V_iload_n hC dX12_step_105 rfl ?_
      refine V_let (B := fun k_3 => ∀ (σ_8 : vMem), V (P_X12_step l d n0 s0) (vEmb eV) σ_8 119 [some (.ref a0), some (.int x1), some (.int v2_3)] [] (k_3 σ_8)) ?_ ?_
      · intro σ_8
        refine V_iincL (v := v2_3 + 1) (ls' := fun v2_4 => [some (.ref a0), some (.int x1), some (.int v2_4)]) hC dX12_step_119 rfl (by decide) rfl rfl (fun _ => rfl) (fun v2_4 => ?_)
        refine V_goto (tgt := 79) hC dX12_step_122 (by decide) ?_
        exact ih σ_8 v2_4
      · intro k_3 hk_3
        refine V_icmp_ne (tgt := 119) hC dX12_step_106 (by decide) ?_ ?_
        · exact hk_3 σ_7
        · refine V_aload_n hC dX12_step_109 rfl ?_
          refine V_aload_n hC dX12_step_110 rfl ?_
          refine V_iload_n hC dX12_step_111 rfl ?_
          refine V_cko (fun hm => k_X12_82 (As := [.int v2_3]) (rest := [.ref a0]) (d' := 1) hC dX12_step_112 hm rfl rfl (Nat.le_of_ble_eq_true rfl) (Nat.le_trans (by decide) hd) vMP_l (fun hk9 _ h => c_X12_may (by decide) (by simpa [hk9, cko] using h)) (fun hk9 _ h => c_X12_may (by decide) (by simpa [hk9, cko] using h)) (fun hk9 _ h => c_X14_may (by decide) (by simpa [hk9, cko] using h)) (fun hk9 _ h => c_X15_may (by decide) (by simpa [hk9, cko] using h)) (fun r_2 => ?_))
          refine V_iconst (v := 1) hC dX12_step_115 rfl ?_
          refine V_cko (fun hm => k_X12_73 (As := [.int r_2, .int 1]) (rest := []) (d' := 2) hC dX12_step_116 hm rfl rfl (Nat.le_of_ble_eq_true rfl) (Nat.le_trans (by decide) hd) (by decide) vMP_l (fun _ h => c_X12_helm (Nat.le_refl _) h) (fun σ_9 => ?_))
          exact hk_3 σ_9
theorem w_X12_step_2 {l : Launch} {d n0 s0 : Nat} (hd : 610 ≤ d) (h0 : l.stackTraces = false) (a0 : Nat) (x1 : Int32) (k : vMem → Option (vMem)) (hk : ∀ (σ_1 : vMem), V (P_X12_step l d n0 s0) (vEmb eV) σ_1 70 [some (.ref a0), some (.int x1), none] [] (k σ_1)) : ∀ (n_2 : Nat) (σ_10 : vMem) (v2_5 : Int32), V (P_X12_step l d n0 s0) (vEmb eV) σ_10 2 [some (.ref a0), some (.int x1), some (.int v2_5)] [] (f_X12_step_2 a0 x1 k n_2 σ_10 v2_5) := by
  have hC : vPx (P_X12_step l d n0 s0) cX12_step 3 "NobodyBeenAft$Course" none d := vMP_cx
  intro n_2
  induction n_2 with
  | zero =>
    intro σ_10 v2_5
    exact V_none
  | succ n_2 ih =>
    intro σ_10 v2_5
    refine V_eq (f_X12_step_2.eq_2 ..) ?_
    refine V_iload_n hC dX12_step_2 rfl ?_
    refine V_aload_n hC dX12_step_3 rfl ?_
    refine g_X12_3 hC dX12_step_4 (fun b_6 => ?_)
    refine g_X12_29 hC dX12_step_7 (fun b_7 => ?_)
    refine g_X12_64 hC dX12_step_10 ?_
    refine V_icmp_ge (tgt := 70) hC dX12_step_13 (by decide) ?_ ?_
    · refine V_clr [2] (ls' := [some (.ref a0), some (.int x1), none]) rfl ?_
      exact hk σ_10
    · refine V_aload_n hC dX12_step_16 rfl ?_
      refine g_X12_3 hC dX12_step_17 (fun b_8 => ?_)
      refine g_X12_29 hC dX12_step_20 (fun b_9 => ?_)
      refine g_X12_67 hC dX12_step_23 (fun b_10 => ?_)
      refine V_iload_n hC dX12_step_26 rfl ?_
      refine V_iald hC dX12_step_27 ?_
      refine V_aload_n hC dX12_step_28 rfl ?_
      refine g_X12_3 hC dX12_step_29 (fun b_11 => ?_)
      refine g_X12_29 hC dX12_step_32 (fun b_12 => ?_)
      refine g_X12_42 hC dX12_step_35 ?_
      refine V_isub hC dX12_step_38 ?_
      refine V_iload_n hC dX12_step_39 rfl ?_
      refine V_let (B := fun k_4 => ∀ (σ_11 : vMem), V (P_X12_step l d n0 s0) (vEmb eV) σ_11 64 [some (.ref a0), some (.int x1), some (.int v2_5)] [] (k_4 σ_11)) ?_ ?_
      · intro σ_11
        refine V_iincL (v := v2_5 + 1) (ls' := fun v2_6 => [some (.ref a0), some (.int x1), some (.int v2_6)]) hC dX12_step_64 rfl (by decide) rfl rfl (fun _ => rfl) (fun v2_6 => ?_)
        refine V_goto (tgt := 2) hC dX12_step_67 (by decide) ?_
        exact ih σ_11 v2_6
      · intro k_4 hk_4
        refine V_icmp_ne (tgt := 64) hC dX12_step_40 (by decide) ?_ ?_
        · exact hk_4 σ_10
        · refine V_aload_n hC dX12_step_43 rfl ?_
          refine V_iconst (v := 1) hC dX12_step_44 rfl ?_
          refine V_aload_n hC dX12_step_45 rfl ?_
          refine g_X12_3 hC dX12_step_46 (fun b_13 => ?_)
          refine g_X12_29 hC dX12_step_49 (fun b_14 => ?_)
          refine g_X12_70 hC dX12_step_52 (fun b_15 => ?_)
          refine V_iload_n hC dX12_step_55 rfl ?_
          refine V_iald hC dX12_step_56 ?_
          refine V_iconst (v := 1) hC dX12_step_57 rfl ?_
          refine V_iadd hC dX12_step_58 ?_
          refine V_ishl hC dX12_step_59 ?_
          refine V_iconst (v := 0) hC dX12_step_60 rfl ?_
          refine V_cko (fun hm => k_X12_73 (As := [.int (1 <<< (((gi σ_10 b_15 (Int32.toNatClampNeg v2_5)) + 1) &&& 31)), .int 0]) (rest := []) (d' := 2) hC dX12_step_61 hm rfl rfl (Nat.le_of_ble_eq_true rfl) (Nat.le_trans (by decide) hd) (by decide) vMP_l (fun _ h => c_X12_helm (Nat.le_refl _) h) (fun σ_12 => ?_))
          exact hk_4 σ_12
theorem w_X12_step {l : Launch} {d n0 s0 : Nat} (hd : 610 ≤ d) (h0 : l.stackTraces = false) (σ : vMem) (a0 : Nat) (x1 : Int32) : V (P_X12_step l d n0 s0) (vEmb eV) σ 0 [some (.ref a0), some (.int x1), none] [] (f_X12_step σ a0 x1) := by
  have hC : vPx (P_X12_step l d n0 s0) cX12_step 3 "NobodyBeenAft$Course" none d := vMP_cx
  refine V_eq (f_X12_step.eq_1 ..) ?_
  refine V_iconst (v := 0) hC dX12_step_0 rfl ?_
  refine V_istore_n (ls' := [some (.ref a0), some (.int x1), some (.int 0)]) hC dX12_step_1 (by decide) rfl rfl ?_
  refine V_let (B := fun k => ∀ (σ_1 : vMem), V (P_X12_step l d n0 s0) (vEmb eV) σ_1 70 [some (.ref a0), some (.int x1), none] [] (k σ_1)) ?_ ?_
  · intro σ_1
    refine V_iconst (v := 0) hC dX12_step_70 rfl ?_
    refine V_iload_n hC dX12_step_71 rfl ?_
    refine V_bipush (v := 12) hC dX12_step_72 rfl ?_
    refine V_isub hC dX12_step_74 ?_
    refine V_mmax hC dX12_step_75 q898 q677 q90 q678 (Nat.le_of_ble_eq_true rfl) ?_
    refine V_istore_nL (ls' := fun v2 => [some (.ref a0), some (.int x1), some (.int v2)]) hC dX12_step_78 (by decide) rfl (fun _ => rfl) (fun v2 => ?_)
    refine V_let (B := fun k_1 => ∀ (σ_2 : vMem), V (P_X12_step l d n0 s0) (vEmb eV) σ_2 125 [some (.ref a0), some (.int x1), none] [] (k_1 σ_2)) ?_ ?_
    · intro σ_2
      refine V_iconst (v := 0) hC dX12_step_125 rfl ?_
      refine V_istore_n (ls' := [some (.ref a0), some (.int x1), some (.int 0)]) hC dX12_step_126 (by decide) rfl rfl ?_
      exact (w_X12_step_127 hd h0 a0 x1) FU σ_2 0
    · intro k_1 hk_1
      exact (w_X12_step_79 hd h0 a0 x1 k_1 hk_1) FU σ_1 v2
  · intro k hk
    exact (w_X12_step_2 hd h0 a0 x1 k hk) FU σ 0
theorem c_X12_step {l : Launch} {d : Nat} (hd : 610 ≤ d) (h0 : l.stackTraces = false) {σ : vMem} {a0 : Nat} {x1 : Int32} {r : vMem} (h : f_X12_step σ a0 x1 = some r) : vOk l yX12_step cX12_step 3 none d [.ref a0, .int x1] σ (.inl ((eV).1 r, (eV).2 r)) := V_method (em := eV) [some (.ref a0), some (.int x1), none] (by decide +kernel) rfl (Nat.le_of_ble_eq_true rfl) (w_X12_step hd h0 σ a0 x1) h
/-! NobodyBeenAft$Course.lanes()I -/
def f_X12_lanes_4 (σ : vMem) (a0 : Nat) : Nat → Int32 → Int32 → Option (Int32)
  | 0, _, _ => none
  | n + 1, v1, v2 => if 9 ≤ v2 then (some v1) else cko σ a0 [12, 13, 14, 15] (dr (gr σ a0 0) (fun b => cka σ b 105 v2 (vl (fun (y : Int32) => vl (v1 ||| y) (fun v1_1 => vl (v2 + 1) (fun v2_1 => f_X12_lanes_4 σ a0 n v1_1 v2_1))) (fun k => if 100000000 ≤ (gi σ b (Int32.toNatClampNeg v2)) then (k 0) else k (1 <<< (v2 &&& 31))))))
def f_X12_lanes (σ : vMem) (a0 : Nat) : Option (Int32) := f_X12_lanes_4 σ a0 FU 0 0
abbrev P_X12_lanes (l : Launch) (d n0 s0 : Nat) : vX → Prop := vMP l yX12_lanes cX12_lanes 3 (some .int) d n0 s0
theorem w_X12_lanes_4 {l : Launch} {d n0 s0 : Nat} (hd : 0 ≤ d) (σ : vMem) (a0 : Nat)  : ∀ (n : Nat) (v1 : Int32) (v2 : Int32), V (P_X12_lanes l d n0 s0) (vEmb (ePI σ)) σ 4 [some (.ref a0), some (.int v1), some (.int v2)] [] (f_X12_lanes_4 σ a0 n v1 v2) := by
  have hC : vPx (P_X12_lanes l d n0 s0) cX12_lanes 3 "NobodyBeenAft$Course" (some .int) d := vMP_cx
  intro n
  induction n with
  | zero =>
    intro v1 v2
    exact V_none
  | succ n ih =>
    intro v1 v2
    refine V_eq (f_X12_lanes_4.eq_2 ..) ?_
    refine V_iload_n hC dX12_lanes_4 rfl ?_
    refine V_bipush (v := 9) hC dX12_lanes_5 rfl ?_
    refine V_icmp_ge (tgt := 37) hC dX12_lanes_7 (by decide) ?_ ?_
    · refine V_iload_n hC dX12_lanes_37 rfl ?_
      exact V_ireturn dX12_lanes_38 rfl rfl
    · refine V_iload_n hC dX12_lanes_10 rfl ?_
      refine V_aload_n hC dX12_lanes_11 rfl ?_
      refine g_X12_15 hC dX12_lanes_12 (fun b => ?_)
      refine V_iload_n hC dX12_lanes_15 rfl ?_
      refine V_iald hC dX12_lanes_16 ?_
      refine V_ldc hC dX12_lanes_17 q872 ?_
      refine V_let (B := fun k => ∀ (y : Int32), V (P_X12_lanes l d n0 s0) (vEmb (ePI σ)) σ 29 [some (.ref a0), none, some (.int v2)] [.int y, .int v1] (k y)) ?_ ?_
      · intro y
        refine V_ior hC dX12_lanes_29 ?_
        refine V_istore_nL (ls' := fun v1_1 => [some (.ref a0), some (.int v1_1), some (.int v2)]) hC dX12_lanes_30 (by decide) rfl (fun _ => rfl) (fun v1_1 => ?_)
        refine V_iincL (v := v2 + 1) (ls' := fun v2_1 => [some (.ref a0), some (.int v1_1), some (.int v2_1)]) hC dX12_lanes_31 rfl (by decide) rfl rfl (fun _ => rfl) (fun v2_1 => ?_)
        refine V_goto (tgt := 4) hC dX12_lanes_34 (by decide) ?_
        exact ih v1_1 v2_1
      · intro k hk
        refine V_icmp_ge (tgt := 28) hC dX12_lanes_19 (by decide) ?_ ?_
        · refine V_iconst (v := 0) hC dX12_lanes_28 rfl ?_
          refine V_clr [1] (ls' := [some (.ref a0), none, some (.int v2)]) rfl ?_
          exact hk 0
        · refine V_iconst (v := 1) hC dX12_lanes_22 rfl ?_
          refine V_iload_n hC dX12_lanes_23 rfl ?_
          refine V_ishl hC dX12_lanes_24 ?_
          refine V_goto (tgt := 29) hC dX12_lanes_25 (by decide) ?_
          refine V_clr [1] (ls' := [some (.ref a0), none, some (.int v2)]) rfl ?_
          exact hk (1 <<< (v2 &&& 31))
theorem w_X12_lanes {l : Launch} {d n0 s0 : Nat} (hd : 0 ≤ d) (σ : vMem) (a0 : Nat) : V (P_X12_lanes l d n0 s0) (vEmb (ePI σ)) σ 0 [some (.ref a0), none, none] [] (f_X12_lanes σ a0) := by
  have hC : vPx (P_X12_lanes l d n0 s0) cX12_lanes 3 "NobodyBeenAft$Course" (some .int) d := vMP_cx
  refine V_eq (f_X12_lanes.eq_1 ..) ?_
  refine V_iconst (v := 0) hC dX12_lanes_0 rfl ?_
  refine V_istore_n (ls' := [some (.ref a0), some (.int 0), none]) hC dX12_lanes_1 (by decide) rfl rfl ?_
  refine V_iconst (v := 0) hC dX12_lanes_2 rfl ?_
  refine V_istore_n (ls' := [some (.ref a0), some (.int 0), some (.int 0)]) hC dX12_lanes_3 (by decide) rfl rfl ?_
  exact (w_X12_lanes_4 hd σ a0) FU 0 0
theorem c_X12_lanes {l : Launch} {d : Nat} (hd : 0 ≤ d) {σ : vMem} {a0 : Nat} {r : Int32} (h : f_X12_lanes σ a0 = some r) : vOk l yX12_lanes cX12_lanes 3 (some .int) d [.ref a0] σ (.inl (((ePI σ)).1 r, ((ePI σ)).2 r)) := V_method (em := (ePI σ)) [some (.ref a0), none, none] (by decide +kernel) rfl (Nat.le_of_ble_eq_true rfl) (w_X12_lanes hd σ a0) h
/-! NobodyBeenAft.clears()I -/
theorem k_X1_330 {α : Type} {P : vX → Prop} {emb : α → vRes} {cc : ByteArray} {nL : Nat} {ret : Option FieldType} {d : Nat} {σ : vMem} {pc : Nat} {ls : List (Option Value)} {st rest : List Value} {t0 : Option (vMem)} {f : vMem → Option α} {l : Launch} {d' a : Nat} {As : List Value} (hC : vPx P cc nL "NobodyBeenAft" ret d) (hdg : decode cc pc = .ok (.invokevirtual 330, 3)) (hm : knd σ a ∈ ([12, 13, 14, 15] : List Nat)) (hn : As.length = 1) (hst : st = As.reverse ++ .ref a :: rest) (hroom : (rest.map fun v => v.category).sum ≤ 8) (hd : d' + 1 ≤ d) (hmL : (0 : Nat) ≤ 0) (hl : ∀ X, P X → X.l = l) (hM : ∀ r, t0 = some r → vOk l yX12_step cX12_step 3 none d' (.ref a :: As) σ (.inl (eV.1 r, eV.2 r))) (kk : ∀ σ1, V P emb σ1 (pc + 3) ls rest (f σ1)) : V P emb σ pc ls st (bv t0 f) := by
  simp only [List.mem_cons, List.not_mem_nil, or_false] at hm
  rcases hm with hk | hk | hk | hk
  · exact V_callV_V (c := 12) hC hdg 1 (lw_V q876 q877 q878 q108 q883) (by decide +kernel) hk (by decide) (by decide) rfl hn hst hroom hd (by decide) hl hM kk
  · exact V_callU_V (C := "NobodyBeenAft$Open") (owner := "NobodyBeenAft$Course") (c := 13) hC hdg 1 (lw_app (List.forall_mem_cons.mpr ⟨q876, List.forall_mem_cons.mpr ⟨q879, List.forall_mem_cons.mpr ⟨q881, List.forall_mem_cons.mpr ⟨q877, List.forall_mem_cons.mpr ⟨q108, fun _ h => absurd h List.not_mem_nil⟩⟩⟩⟩⟩) (lw_meth q883)) rfl (by decide +kernel) hk (by decide) (by decide) rfl hn hst hroom hd (by decide) hl hM kk
  · exact V_callU_V (C := "NobodyBeenAft$Told") (owner := "NobodyBeenAft$Course") (c := 14) hC hdg 1 (lw_app (List.forall_mem_cons.mpr ⟨q876, List.forall_mem_cons.mpr ⟨q879, List.forall_mem_cons.mpr ⟨q882, List.forall_mem_cons.mpr ⟨q877, List.forall_mem_cons.mpr ⟨q108, fun _ h => absurd h List.not_mem_nil⟩⟩⟩⟩⟩) (lw_meth q883)) rfl (by decide +kernel) hk (by decide) (by decide) rfl hn hst hroom hd (by decide) hl hM kk
  · exact V_callU_V (C := "NobodyBeenAft$Late") (owner := "NobodyBeenAft$Course") (c := 15) hC hdg 1 (lw_app (List.forall_mem_cons.mpr ⟨q876, List.forall_mem_cons.mpr ⟨q879, List.forall_mem_cons.mpr ⟨q880, List.forall_mem_cons.mpr ⟨q877, List.forall_mem_cons.mpr ⟨q108, fun _ h => absurd h List.not_mem_nil⟩⟩⟩⟩⟩) (lw_meth q883)) rfl (by decide +kernel) hk (by decide) (by decide) rfl hn hst hroom hd (by decide) hl hM kk
theorem k_X1_336 {α : Type} {P : vX → Prop} {emb : α → vRes} {cc : ByteArray} {nL : Nat} {ret : Option FieldType} {d : Nat} {σ : vMem} {pc : Nat} {ls : List (Option Value)} {st rest : List Value} {t0 : Option (Int32)} {f : Int32 → Option α} {l : Launch} {d' a : Nat} {As : List Value} (hC : vPx P cc nL "NobodyBeenAft" ret d) (hdg : decode cc pc = .ok (.invokevirtual 336, 3)) (hm : knd σ a ∈ ([12, 13, 14, 15] : List Nat)) (hn : As.length = 0) (hst : st = As.reverse ++ .ref a :: rest) (hroom : (rest.map fun v => v.category).sum ≤ 8) (hd : d' + 1 ≤ d) (hmL : (0 : Nat) ≤ 0) (hl : ∀ X, P X → X.l = l) (hM : ∀ r, t0 = some r → vOk l yX12_lanes cX12_lanes 3 (some .int) d' (.ref a :: As) σ (.inl ((ePI σ).1 r, (ePI σ).2 r))) (kk : ∀ x, V P emb σ (pc + 3) ls (.int x :: rest) (f x)) : V P emb σ pc ls st (bp t0 f) := by
  simp only [List.mem_cons, List.not_mem_nil, or_false] at hm
  rcases hm with hk | hk | hk | hk
  · exact V_callV_PI (c := 12) hC hdg 0 (lw_V q927 q928 q929 q108 q934) (by decide +kernel) hk (by decide) (by decide) rfl hn hst hroom hd (by decide) hl hM kk
  · exact V_callU_PI (C := "NobodyBeenAft$Open") (owner := "NobodyBeenAft$Course") (c := 13) hC hdg 0 (lw_app (List.forall_mem_cons.mpr ⟨q927, List.forall_mem_cons.mpr ⟨q930, List.forall_mem_cons.mpr ⟨q932, List.forall_mem_cons.mpr ⟨q928, List.forall_mem_cons.mpr ⟨q108, fun _ h => absurd h List.not_mem_nil⟩⟩⟩⟩⟩) (lw_meth q934)) rfl (by decide +kernel) hk (by decide) (by decide) rfl hn hst hroom hd (by decide) hl hM kk
  · exact V_callU_PI (C := "NobodyBeenAft$Told") (owner := "NobodyBeenAft$Course") (c := 14) hC hdg 0 (lw_app (List.forall_mem_cons.mpr ⟨q927, List.forall_mem_cons.mpr ⟨q930, List.forall_mem_cons.mpr ⟨q933, List.forall_mem_cons.mpr ⟨q928, List.forall_mem_cons.mpr ⟨q108, fun _ h => absurd h List.not_mem_nil⟩⟩⟩⟩⟩) (lw_meth q934)) rfl (by decide +kernel) hk (by decide) (by decide) rfl hn hst hroom hd (by decide) hl hM kk
  · exact V_callU_PI (C := "NobodyBeenAft$Late") (owner := "NobodyBeenAft$Course") (c := 15) hC hdg 0 (lw_app (List.forall_mem_cons.mpr ⟨q927, List.forall_mem_cons.mpr ⟨q930, List.forall_mem_cons.mpr ⟨q931, List.forall_mem_cons.mpr ⟨q928, List.forall_mem_cons.mpr ⟨q108, fun _ h => absurd h List.not_mem_nil⟩⟩⟩⟩⟩) (lw_meth q934)) rfl (by decide +kernel) hk (by decide) (by decide) rfl hn hst hroom hd (by decide) hl hM kk
def f_X1_clears_78 (a0 : Nat) (b_1 : Nat) (v4 : Int32) (v5 : Int32) (σ_8 : vMem) (k_2 : Int32 → Int32 → Option (Int32 × vMem)) : Nat → Int32 → Int32 → Int32 → Option (Int32 × vMem)
  | 0, _, _, _ => none
  | n_1 + 1, v1_3, v2_3, v6 => cko σ_8 a0 [1] (if (gi σ_8 a0 11) ≤ v6 then (k_2 v1_3 v2_3) else cko σ_8 a0 [1] (dr (gr σ_8 a0 5) (fun b_2 => cka σ_8 b_2 105 v6 (cko σ_8 a0 [1] (dr (gr σ_8 a0 0) (fun b_3 => cko σ_8 b_3 [2] (vl (fun (v1_4 : Int32) (v2_4 : Int32) => vl (v6 + 1) (fun v6_1 => f_X1_clears_78 a0 b_1 v4 v5 σ_8 k_2 n_1 v1_4 v2_4 v6_1)) (fun k_3 => if ((gi σ_8 b_2 (Int32.toNatClampNeg v6)) - (gi σ_8 b_3 4)) = v5 then (cko σ_8 b_1 [12, 13, 14, 15] (bp (f_X12_lanes σ_8 b_1) (fun r => cko σ_8 a0 [1] (dr (gr σ_8 a0 6) (fun b_4 => cka σ_8 b_4 105 v6 (if (r &&& ((1 <<< ((gi σ_8 b_4 (Int32.toNatClampNeg v6)) &&& 31)) ^^^ (-1))) = 0 then (vl (v2_3 ||| (1 <<< (v6 &&& 31))) (fun v2_5 => k_3 v1_3 v2_5)) else vl (v1_3 ||| (1 <<< (v6 &&& 31))) (fun v1_5 => k_3 v1_5 v2_3))))))) else k_3 v1_3 v2_3))))))))
def f_X1_clears_62 (a0 : Nat) (b_1 : Nat) (v4 : Int32) (k_1 : vMem → Int32 → Int32 → Option (Int32 × vMem)) : Nat → vMem → Int32 → Int32 → Int32 → Option (Int32 × vMem)
  | 0, _, _, _, _ => none
  | n + 1, σ_7, v1_1, v2_1, v5 => if v4 < v5 then (k_1 σ_7 v1_1 v2_1) else cko σ_7 b_1 [12, 13, 14, 15] (bv (f_X12_step σ_7 b_1 v5) (fun σ_8 => vl (fun (v1_2 : Int32) (v2_2 : Int32) => vl (v5 + 1) (fun v5_1 => f_X1_clears_62 a0 b_1 v4 k_1 n σ_8 v1_2 v2_2 v5_1)) (fun k_2 => f_X1_clears_78 a0 b_1 v4 v5 σ_8 k_2 FU v1_1 v2_1 0)))
def f_X1_clears_22 (a0 : Nat) (b_1 : Nat) (σ_3 : vMem) (k : Int32 → Option (Int32 × vMem)) : Nat → Int32 → Int32 → Option (Int32 × vMem)
  | 0, _, _ => none
  | n_2 + 1, v4_1, v5_2 => cko σ_3 a0 [1] (if (gi σ_3 a0 11) ≤ v5_2 then (k v4_1) else cko σ_3 a0 [1] (dr (gr σ_3 a0 5) (fun b_5 => cka σ_3 b_5 105 v5_2 (cko σ_3 a0 [1] (dr (gr σ_3 a0 0) (fun b_6 => cko σ_3 b_6 [2] (vl (imax v4_1 ((gi σ_3 b_5 (Int32.toNatClampNeg v5_2)) - (gi σ_3 b_6 4))) (fun v4_2 => vl (v5_2 + 1) (fun v5_3 => f_X1_clears_22 a0 b_1 σ_3 k n_2 v4_2 v5_3)))))))))
def f_X1_clears (σ : vMem) (a0 : Nat) : Option (Int32 × vMem) := nw σ 13 4 (fun b σ_1 => bv (f_X13_init σ_1 b a0) (fun σ_2 => cko σ_2 b [13] (bd (f_X12_begin σ_2 b) (fun b_1 σ_3 => vl (fun (v4 : Int32) => vl (fun (σ_4 : vMem) (v1 : Int32) (v2 : Int32) => cko σ_4 a0 [1] (vl (si σ_4 a0 18 0) (fun σ_5 => cko σ_5 a0 [1] (bv (f_X1_tell σ_5 a0 (Int32.toInt64 v2)) (fun σ_6 => some (v1, σ_6)))))) (fun k_1 => f_X1_clears_62 a0 b_1 v4 k_1 FU σ_3 0 0 1)) (fun k => f_X1_clears_22 a0 b_1 σ_3 k FU 0 0)))))
abbrev P_X1_clears (l : Launch) (d n0 s0 : Nat) : vX → Prop := vMP l yX1_clears cX1_clears 7 (some .int) d n0 s0
theorem w_X1_clears_78 {l : Launch} {d n0 s0 : Nat} (hd : 611 ≤ d) (h0 : l.stackTraces = false) (a0 : Nat) (b_1 : Nat) (v4 : Int32) (v5 : Int32) (σ_8 : vMem) (k_2 : Int32 → Int32 → Option (Int32 × vMem)) (hk_2 : ∀ (v1_2 : Int32), ∀ (v2_2 : Int32), V (P_X1_clears l d n0 s0) (vEmb eI) σ_8 152 [some (.ref a0), some (.int v1_2), some (.int v2_2), some (.ref b_1), some (.int v4), some (.int v5), none] [] (k_2 v1_2 v2_2)) : ∀ (n_1 : Nat) (v1_3 : Int32) (v2_3 : Int32) (v6 : Int32), V (P_X1_clears l d n0 s0) (vEmb eI) σ_8 78 [some (.ref a0), some (.int v1_3), some (.int v2_3), some (.ref b_1), some (.int v4), some (.int v5), some (.int v6)] [] (f_X1_clears_78 a0 b_1 v4 v5 σ_8 k_2 n_1 v1_3 v2_3 v6) := by
  have hC : vPx (P_X1_clears l d n0 s0) cX1_clears 7 "NobodyBeenAft" (some .int) d := vMP_cx
  intro n_1
  induction n_1 with
  | zero =>
    intro v1_3 v2_3 v6
    exact V_none
  | succ n_1 ih =>
    intro v1_3 v2_3 v6
    refine V_eq (f_X1_clears_78.eq_2 ..) ?_
    refine V_iload hC dX1_clears_78 rfl ?_
    refine V_aload_n hC dX1_clears_80 rfl ?_
    refine g_X1_139 hC dX1_clears_81 ?_
    refine V_icmp_ge (tgt := 152) hC dX1_clears_84 (by decide) ?_ ?_
    · refine V_clr [6] (ls' := [some (.ref a0), some (.int v1_3), some (.int v2_3), some (.ref b_1), some (.int v4), some (.int v5), none]) rfl ?_
      exact hk_2 v1_3 v2_3
    · refine V_aload_n hC dX1_clears_87 rfl ?_
      refine g_X1_39 hC dX1_clears_88 (fun b_2 => ?_)
      refine V_iload hC dX1_clears_91 rfl ?_
      refine V_iald hC dX1_clears_93 ?_
      refine V_aload_n hC dX1_clears_94 rfl ?_
      refine g_X1_21 hC dX1_clears_95 (fun b_3 => ?_)
      refine g_X1_215 hC dX1_clears_98 ?_
      refine V_isub hC dX1_clears_101 ?_
      refine V_iload hC dX1_clears_102 rfl ?_
      refine V_let (B := fun k_3 => ∀ (v1_4 : Int32), ∀ (v2_4 : Int32), V (P_X1_clears l d n0 s0) (vEmb eI) σ_8 146 [some (.ref a0), some (.int v1_4), some (.int v2_4), some (.ref b_1), some (.int v4), some (.int v5), some (.int v6)] [] (k_3 v1_4 v2_4)) ?_ ?_
      · intro v1_4 v2_4
        refine V_iincL (v := v6 + 1) (ls' := fun v6_1 => [some (.ref a0), some (.int v1_4), some (.int v2_4), some (.ref b_1), some (.int v4), some (.int v5), some (.int v6_1)]) hC dX1_clears_146 rfl (by decide) rfl rfl (fun _ => rfl) (fun v6_1 => ?_)
        refine V_goto (tgt := 78) hC dX1_clears_149 (by decide) ?_
        exact ih v1_4 v2_4 v6_1
      · intro k_3 hk_3
        refine V_icmp_eq (tgt := 110) hC dX1_clears_104 (by decide) ?_ ?_
        · refine V_aload_n hC dX1_clears_110 rfl ?_
          refine V_cko (fun hm => k_X1_336 (As := []) (rest := []) (d' := 0) hC dX1_clears_111 hm rfl rfl (Nat.le_of_ble_eq_true rfl) (Nat.le_trans (by decide) hd) (by decide) vMP_l (fun _ h => c_X12_lanes (Nat.le_refl _) h) (fun r => ?_))
          refine V_iconst (v := 1) hC dX1_clears_114 rfl ?_
          refine V_aload_n hC dX1_clears_115 rfl ?_
          refine g_X1_42 hC dX1_clears_116 (fun b_4 => ?_)
          refine V_iload hC dX1_clears_119 rfl ?_
          refine V_iald hC dX1_clears_121 ?_
          refine V_ishl hC dX1_clears_122 ?_
          refine V_iconst (v := (-1)) hC dX1_clears_123 rfl ?_
          refine V_ixor hC dX1_clears_124 ?_
          refine V_iand hC dX1_clears_125 ?_
          refine V_if_eq (tgt := 139) hC dX1_clears_126 (by decide) ?_ ?_
          · refine V_iload_n hC dX1_clears_139 rfl ?_
            refine V_iconst (v := 1) hC dX1_clears_140 rfl ?_
            refine V_iload hC dX1_clears_141 rfl ?_
            refine V_ishl hC dX1_clears_143 ?_
            refine V_ior hC dX1_clears_144 ?_
            refine V_istore_nL (ls' := fun v2_5 => [some (.ref a0), some (.int v1_3), some (.int v2_5), some (.ref b_1), some (.int v4), some (.int v5), some (.int v6)]) hC dX1_clears_145 (by decide) rfl (fun _ => rfl) (fun v2_5 => ?_)
            exact hk_3 v1_3 v2_5
          · refine V_iload_n hC dX1_clears_129 rfl ?_
            refine V_iconst (v := 1) hC dX1_clears_130 rfl ?_
            refine V_iload hC dX1_clears_131 rfl ?_
            refine V_ishl hC dX1_clears_133 ?_
            refine V_ior hC dX1_clears_134 ?_
            refine V_istore_nL (ls' := fun v1_5 => [some (.ref a0), some (.int v1_5), some (.int v2_3), some (.ref b_1), some (.int v4), some (.int v5), some (.int v6)]) hC dX1_clears_135 (by decide) rfl (fun _ => rfl) (fun v1_5 => ?_)
            refine V_goto (tgt := 146) hC dX1_clears_136 (by decide) ?_
            exact hk_3 v1_5 v2_3
        · refine V_goto (tgt := 146) hC dX1_clears_107 (by decide) ?_
          exact hk_3 v1_3 v2_3
theorem w_X1_clears_62 {l : Launch} {d n0 s0 : Nat} (hd : 611 ≤ d) (h0 : l.stackTraces = false) (a0 : Nat) (b_1 : Nat) (v4 : Int32) (k_1 : vMem → Int32 → Int32 → Option (Int32 × vMem)) (hk_1 : ∀ (σ_4 : vMem), ∀ (v1 : Int32), ∀ (v2 : Int32), V (P_X1_clears l d n0 s0) (vEmb eI) σ_4 158 [some (.ref a0), some (.int v1), some (.int v2), none, none, none, none] [] (k_1 σ_4 v1 v2)) : ∀ (n : Nat) (σ_7 : vMem) (v1_1 : Int32) (v2_1 : Int32) (v5 : Int32), V (P_X1_clears l d n0 s0) (vEmb eI) σ_7 62 [some (.ref a0), some (.int v1_1), some (.int v2_1), some (.ref b_1), some (.int v4), some (.int v5), none] [] (f_X1_clears_62 a0 b_1 v4 k_1 n σ_7 v1_1 v2_1 v5) := by
  have hC : vPx (P_X1_clears l d n0 s0) cX1_clears 7 "NobodyBeenAft" (some .int) d := vMP_cx
  intro n
  induction n with
  | zero =>
    intro σ_7 v1_1 v2_1 v5
    exact V_none
  | succ n ih =>
    intro σ_7 v1_1 v2_1 v5
    refine V_eq (f_X1_clears_62.eq_2 ..) ?_
    refine V_iload hC dX1_clears_62 rfl ?_
    refine V_iload hC dX1_clears_64 rfl ?_
    refine V_icmp_gt (tgt := 158) hC dX1_clears_66 (by decide) ?_ ?_
    · refine V_clr [3, 4, 5] (ls' := [some (.ref a0), some (.int v1_1), some (.int v2_1), none, none, none, none]) rfl ?_
      exact hk_1 σ_7 v1_1 v2_1
    · refine V_aload_n hC dX1_clears_69 rfl ?_
      refine V_iload hC dX1_clears_70 rfl ?_
      refine V_cko (fun hm => k_X1_330 (As := [.int v5]) (rest := []) (d' := 610) hC dX1_clears_72 hm rfl rfl (Nat.le_of_ble_eq_true rfl) (Nat.le_trans (by decide) hd) (by decide) vMP_l (fun _ h => c_X12_step (Nat.le_refl _) h0 h) (fun σ_8 => ?_))
      refine V_iconst (v := 0) hC dX1_clears_75 rfl ?_
      refine V_istore (ls' := [some (.ref a0), some (.int v1_1), some (.int v2_1), some (.ref b_1), some (.int v4), some (.int v5), some (.int 0)]) hC dX1_clears_76 (by decide) rfl rfl ?_
      refine V_let (B := fun k_2 => ∀ (v1_2 : Int32), ∀ (v2_2 : Int32), V (P_X1_clears l d n0 s0) (vEmb eI) σ_8 152 [some (.ref a0), some (.int v1_2), some (.int v2_2), some (.ref b_1), some (.int v4), some (.int v5), none] [] (k_2 v1_2 v2_2)) ?_ ?_
      · intro v1_2 v2_2
        refine V_iincL (v := v5 + 1) (ls' := fun v5_1 => [some (.ref a0), some (.int v1_2), some (.int v2_2), some (.ref b_1), some (.int v4), some (.int v5_1), none]) hC dX1_clears_152 rfl (by decide) rfl rfl (fun _ => rfl) (fun v5_1 => ?_)
        refine V_goto (tgt := 62) hC dX1_clears_155 (by decide) ?_
        exact ih σ_8 v1_2 v2_2 v5_1
      · intro k_2 hk_2
        exact (w_X1_clears_78 hd h0 a0 b_1 v4 v5 σ_8 k_2 hk_2) FU v1_1 v2_1 0
theorem w_X1_clears_22 {l : Launch} {d n0 s0 : Nat} (hd : 611 ≤ d) (h0 : l.stackTraces = false) (a0 : Nat) (b_1 : Nat) (σ_3 : vMem) (k : Int32 → Option (Int32 × vMem)) (hk : ∀ (v4 : Int32), V (P_X1_clears l d n0 s0) (vEmb eI) σ_3 59 [some (.ref a0), some (.int 0), some (.int 0), some (.ref b_1), some (.int v4), none, none] [] (k v4)) : ∀ (n_2 : Nat) (v4_1 : Int32) (v5_2 : Int32), V (P_X1_clears l d n0 s0) (vEmb eI) σ_3 22 [some (.ref a0), some (.int 0), some (.int 0), some (.ref b_1), some (.int v4_1), some (.int v5_2), none] [] (f_X1_clears_22 a0 b_1 σ_3 k n_2 v4_1 v5_2) := by
  have hC : vPx (P_X1_clears l d n0 s0) cX1_clears 7 "NobodyBeenAft" (some .int) d := vMP_cx
  intro n_2
  induction n_2 with
  | zero =>
    intro v4_1 v5_2
    exact V_none
  | succ n_2 ih =>
    intro v4_1 v5_2
    refine V_eq (f_X1_clears_22.eq_2 ..) ?_
    refine V_iload hC dX1_clears_22 rfl ?_
    refine V_aload_n hC dX1_clears_24 rfl ?_
    refine g_X1_139 hC dX1_clears_25 ?_
    refine V_icmp_ge (tgt := 59) hC dX1_clears_28 (by decide) ?_ ?_
    · refine V_clr [5] (ls' := [some (.ref a0), some (.int 0), some (.int 0), some (.ref b_1), some (.int v4_1), none, none]) rfl ?_
      exact hk v4_1
    · refine V_iload hC dX1_clears_31 rfl ?_
      refine V_aload_n hC dX1_clears_33 rfl ?_
      refine g_X1_39 hC dX1_clears_34 (fun b_5 => ?_)
      refine V_iload hC dX1_clears_37 rfl ?_
      refine V_iald hC dX1_clears_39 ?_
      refine V_aload_n hC dX1_clears_40 rfl ?_
      refine g_X1_21 hC dX1_clears_41 (fun b_6 => ?_)
      refine g_X1_215 hC dX1_clears_44 ?_
      refine V_isub hC dX1_clears_47 ?_
      refine V_mmax hC dX1_clears_48 q676 q677 q90 q678 (Nat.le_of_ble_eq_true rfl) ?_
      refine V_istoreL (ls' := fun v4_2 => [some (.ref a0), some (.int 0), some (.int 0), some (.ref b_1), some (.int v4_2), some (.int v5_2), none]) hC dX1_clears_51 (by decide) rfl (fun _ => rfl) (fun v4_2 => ?_)
      refine V_iincL (v := v5_2 + 1) (ls' := fun v5_3 => [some (.ref a0), some (.int 0), some (.int 0), some (.ref b_1), some (.int v4_2), some (.int v5_3), none]) hC dX1_clears_53 rfl (by decide) rfl rfl (fun _ => rfl) (fun v5_3 => ?_)
      refine V_goto (tgt := 22) hC dX1_clears_56 (by decide) ?_
      exact ih v4_2 v5_3
theorem w_X1_clears {l : Launch} {d n0 s0 : Nat} (hd : 611 ≤ d) (h0 : l.stackTraces = false) (σ : vMem) (a0 : Nat) : V (P_X1_clears l d n0 s0) (vEmb eI) σ 0 [some (.ref a0), none, none, none, none, none, none] [] (f_X1_clears σ a0) := by
  have hC : vPx (P_X1_clears l d n0 s0) cX1_clears 7 "NobodyBeenAft" (some .int) d := vMP_cx
  refine V_eq (f_X1_clears.eq_1 ..) ?_
  refine V_iconst (v := 0) hC dX1_clears_0 rfl ?_
  refine V_istore_n (ls' := [some (.ref a0), some (.int 0), none, none, none, none, none]) hC dX1_clears_1 (by decide) rfl rfl ?_
  refine V_iconst (v := 0) hC dX1_clears_2 rfl ?_
  refine V_istore_n (ls' := [some (.ref a0), some (.int 0), some (.int 0), none, none, none, none]) hC dX1_clears_3 (by decide) rfl rfl ?_
  refine V_new (c := 13) hC dX1_clears_4 q844 q845 q109 rfl (by decide) in_X13 tyX13 tyX13_ok (by decide +kernel) (fun b σ_1 => ?_)
  refine V_dup hC dX1_clears_7 rfl ?_
  refine V_aload_n hC dX1_clears_8 rfl ?_
  refine V_callIN_V (As := [.ref a0]) (rest := [.ref b]) (d' := 1) hC dX1_clears_9 1 q848 q109 q846 q847 rfl rfl (by decide +kernel) rfl rfl (Nat.le_of_ble_eq_true rfl) (Nat.le_trans (by decide) hd) (by decide) vMP_l (fun _ h => c_X13_init (Nat.le_refl _) h) (fun σ_2 => ?_)
  refine V_cko (fun hm => V_callU_A (C := "NobodyBeenAft$Open") (owner := "NobodyBeenAft$Course") (c := 13) (As := []) (rest := []) (d' := 1) hC dX1_clears_12 0 (lw_app (List.forall_mem_cons.mpr ⟨q866, List.forall_mem_cons.mpr ⟨q867, List.forall_mem_cons.mpr ⟨q869, List.forall_mem_cons.mpr ⟨q870, List.forall_mem_cons.mpr ⟨q108, fun _ h => absurd h List.not_mem_nil⟩⟩⟩⟩⟩) (lw_meth q871)) rfl (by decide +kernel) (List.mem_singleton.mp hm) (by decide) (by decide) rfl rfl rfl (Nat.le_of_ble_eq_true rfl) (Nat.le_trans (by decide) hd) (by decide) vMP_l (fun _ h => c_X12_begin (Nat.le_refl _) h) (fun b_1 σ_3 => ?_))
  refine V_astore_n (ls' := [some (.ref a0), some (.int 0), some (.int 0), some (.ref b_1), none, none, none]) hC dX1_clears_15 (by decide) rfl rfl ?_
  refine V_iconst (v := 0) hC dX1_clears_16 rfl ?_
  refine V_istore (ls' := [some (.ref a0), some (.int 0), some (.int 0), some (.ref b_1), some (.int 0), none, none]) hC dX1_clears_17 (by decide) rfl rfl ?_
  refine V_iconst (v := 0) hC dX1_clears_19 rfl ?_
  refine V_istore (ls' := [some (.ref a0), some (.int 0), some (.int 0), some (.ref b_1), some (.int 0), some (.int 0), none]) hC dX1_clears_20 (by decide) rfl rfl ?_
  refine V_let (B := fun k => ∀ (v4 : Int32), V (P_X1_clears l d n0 s0) (vEmb eI) σ_3 59 [some (.ref a0), some (.int 0), some (.int 0), some (.ref b_1), some (.int v4), none, none] [] (k v4)) ?_ ?_
  · intro v4
    refine V_iconst (v := 1) hC dX1_clears_59 rfl ?_
    refine V_istore (ls' := [some (.ref a0), some (.int 0), some (.int 0), some (.ref b_1), some (.int v4), some (.int 1), none]) hC dX1_clears_60 (by decide) rfl rfl ?_
    refine V_let (B := fun k_1 => ∀ (σ_4 : vMem), ∀ (v1 : Int32), ∀ (v2 : Int32), V (P_X1_clears l d n0 s0) (vEmb eI) σ_4 158 [some (.ref a0), some (.int v1), some (.int v2), none, none, none, none] [] (k_1 σ_4 v1 v2)) ?_ ?_
    · intro σ_4 v1 v2
      refine V_aload_n hC dX1_clears_158 rfl ?_
      refine V_iconst (v := 0) hC dX1_clears_159 rfl ?_
      refine p_X1_84 hC dX1_clears_160 (fun σ_5 => ?_)
      refine V_aload_n hC dX1_clears_163 rfl ?_
      refine V_iload_n hC dX1_clears_164 rfl ?_
      refine V_i2l hC dX1_clears_165 ?_
      refine V_cko (fun hm => V_callV_V (c := 1) (As := [.long (Int32.toInt64 v2)]) (rest := []) (d' := 0) hC dX1_clears_166 1 (lw_V q768 q770 qs17 q85 q771) (by decide +kernel) (List.mem_singleton.mp hm) (by decide) (by decide) rfl rfl rfl (Nat.le_of_ble_eq_true rfl) (Nat.le_trans (by decide) hd) (by decide) vMP_l (fun _ h => c_X1_tell (Nat.le_refl _) h) (fun σ_6 => ?_))
      refine V_iload_n hC dX1_clears_169 rfl ?_
      exact V_ireturn dX1_clears_170 rfl rfl
    · intro k_1 hk_1
      exact (w_X1_clears_62 hd h0 a0 b_1 v4 k_1 hk_1) FU σ_3 0 0 1
  · intro k hk
    exact (w_X1_clears_22 hd h0 a0 b_1 σ_3 k hk) FU 0 0
theorem c_X1_clears {l : Launch} {d : Nat} (hd : 611 ≤ d) (h0 : l.stackTraces = false) {σ : vMem} {a0 : Nat} {r : Int32 × vMem} (h : f_X1_clears σ a0 = some r) : vOk l yX1_clears cX1_clears 7 (some .int) d [.ref a0] σ (.inl ((eI).1 r, (eI).2 r)) := V_method (em := eI) [some (.ref a0), none, none, none, none, none, none] (by decide +kernel) rfl (Nat.le_of_ble_eq_true rfl) (w_X1_clears hd h0 σ a0) h
/-! NobodyBeenAft$Told.<init>(LNobodyBeenAft;)V -/
def f_X14_init (σ : vMem) (a0 : Nat) (a1 : Nat) : Option (vMem) := cko σ a0 [14] (vl (sr σ a0 5 (some a1)) (fun σ_1 => bv (f_X12_init σ_1 a0 a1) (fun σ_2 => nwa σ_2 105 30 (fun b σ_3 => cko σ_3 a0 [14] (vl (sr σ_3 a0 3 (some b)) (fun σ_4 => some σ_4))))))
abbrev P_X14_init (l : Launch) (d n0 s0 : Nat) : vX → Prop := vMP l yX14_init cX14_init 2 none d n0 s0
theorem w_X14_init {l : Launch} {d n0 s0 : Nat} (hd : 1 ≤ d) (σ : vMem) (a0 : Nat) (a1 : Nat) : V (P_X14_init l d n0 s0) (vEmb eV) σ 0 [some (.ref a0), some (.ref a1)] [] (f_X14_init σ a0 a1) := by
  have hC : vPx (P_X14_init l d n0 s0) cX14_init 2 "NobodyBeenAft$Told" none d := vMP_cx
  refine V_eq (f_X14_init.eq_1 ..) ?_
  refine V_aload_n hC dX14_init_0 rfl ?_
  refine V_aload_n hC dX14_init_1 rfl ?_
  refine p_X14_3 hC dX14_init_2 (fun X hX => (vMP_n X hX).trans rfl) (fun σ_1 => ?_)
  refine V_aload_n hC dX14_init_5 rfl ?_
  refine V_aload_n hC dX14_init_6 rfl ?_
  refine V_callIN_V (As := [.ref a1]) (rest := []) (d' := 0) hC dX14_init_7 1 q851 q108 q945 q850 rfl rfl (by decide +kernel) rfl rfl (Nat.le_of_ble_eq_true rfl) (Nat.le_trans (by decide) hd) (by decide) vMP_l (fun _ h => c_X12_init (Nat.le_refl _) h) (fun σ_2 => ?_)
  refine V_aload_n hC dX14_init_10 rfl ?_
  refine V_bipush (v := 30) hC dX14_init_11 rfl ?_
  refine V_newa_int hC dX14_init_13 q172 (fun b σ_3 => ?_)
  refine p_X14_15 hC dX14_init_15 (fun X hX => (vMP_n X hX).trans rfl) (fun σ_4 => ?_)
  exact V_return dX14_init_18 rfl rfl
theorem c_X14_init {l : Launch} {d : Nat} (hd : 1 ≤ d) {σ : vMem} {a0 : Nat} {a1 : Nat} {r : vMem} (h : f_X14_init σ a0 a1 = some r) : vOk l yX14_init cX14_init 2 none d [.ref a0, .ref a1] σ (.inl ((eV).1 r, (eV).2 r)) := V_method (em := eV) [some (.ref a0), some (.ref a1)] (by decide +kernel) rfl (Nat.le_of_ble_eq_true rfl) (w_X14_init hd σ a0 a1) h
/-! NobodyBeenAft$Course.go(I)I -/
theorem k_X12_88 {α : Type} {P : vX → Prop} {emb : α → vRes} {cc : ByteArray} {nL : Nat} {ret : Option FieldType} {d : Nat} {σ : vMem} {pc : Nat} {ls : List (Option Value)} {st rest : List Value} {t0 : Option (Nat × vMem)} {f : Nat → vMem → Option α} {l : Launch} {d' a : Nat} {As : List Value} (hC : vPx P cc nL "NobodyBeenAft$Course" ret d) (hdg : decode cc pc = .ok (.invokevirtual 88, 3)) (hm : knd σ a ∈ ([12, 13, 14, 15] : List Nat)) (hn : As.length = 0) (hst : st = As.reverse ++ .ref a :: rest) (hroom : (rest.map fun v => v.category).sum ≤ 8) (hd : d' + 1 ≤ d) (hmL : (0 : Nat) ≤ 0) (hl : ∀ X, P X → X.l = l) (hM : ∀ r, t0 = some r → vOk l yX12_begin cX12_begin 1 (some (.object "NobodyBeenAft$Course")) d' (.ref a :: As) σ (.inl (eA.1 r, eA.2 r))) (kk : ∀ x σ1, V P emb σ1 (pc + 3) ls (.ref x :: rest) (f x σ1)) : V P emb σ pc ls st (bd t0 f) := by
  simp only [List.mem_cons, List.not_mem_nil, or_false] at hm
  rcases hm with hk | hk | hk | hk
  · exact V_callV_A (c := 12) hC hdg 0 (lw_V q967 q870 q1961 q108 q871) (by decide +kernel) hk (by decide) (by decide) rfl hn hst hroom hd (by decide) hl hM kk
  · exact V_callU_A (C := "NobodyBeenAft$Open") (owner := "NobodyBeenAft$Course") (c := 13) hC hdg 0 (lw_app (List.forall_mem_cons.mpr ⟨q967, List.forall_mem_cons.mpr ⟨q1960, List.forall_mem_cons.mpr ⟨q1963, List.forall_mem_cons.mpr ⟨q870, List.forall_mem_cons.mpr ⟨q108, fun _ h => absurd h List.not_mem_nil⟩⟩⟩⟩⟩) (lw_meth q871)) rfl (by decide +kernel) hk (by decide) (by decide) rfl hn hst hroom hd (by decide) hl hM kk
  · exact V_callU_A (C := "NobodyBeenAft$Told") (owner := "NobodyBeenAft$Course") (c := 14) hC hdg 0 (lw_app (List.forall_mem_cons.mpr ⟨q967, List.forall_mem_cons.mpr ⟨q1960, List.forall_mem_cons.mpr ⟨q1964, List.forall_mem_cons.mpr ⟨q870, List.forall_mem_cons.mpr ⟨q108, fun _ h => absurd h List.not_mem_nil⟩⟩⟩⟩⟩) (lw_meth q871)) rfl (by decide +kernel) hk (by decide) (by decide) rfl hn hst hroom hd (by decide) hl hM kk
  · exact V_callU_A (C := "NobodyBeenAft$Late") (owner := "NobodyBeenAft$Course") (c := 15) hC hdg 0 (lw_app (List.forall_mem_cons.mpr ⟨q967, List.forall_mem_cons.mpr ⟨q1960, List.forall_mem_cons.mpr ⟨q1962, List.forall_mem_cons.mpr ⟨q870, List.forall_mem_cons.mpr ⟨q108, fun _ h => absurd h List.not_mem_nil⟩⟩⟩⟩⟩) (lw_meth q871)) rfl (by decide +kernel) hk (by decide) (by decide) rfl hn hst hroom hd (by decide) hl hM kk
theorem k_X12_92 {α : Type} {P : vX → Prop} {emb : α → vRes} {cc : ByteArray} {nL : Nat} {ret : Option FieldType} {d : Nat} {σ : vMem} {pc : Nat} {ls : List (Option Value)} {st rest : List Value} {t0 : Option (vMem)} {f : vMem → Option α} {l : Launch} {d' a : Nat} {As : List Value} (hC : vPx P cc nL "NobodyBeenAft$Course" ret d) (hdg : decode cc pc = .ok (.invokevirtual 92, 3)) (hm : knd σ a ∈ ([12, 13, 14, 15] : List Nat)) (hn : As.length = 1) (hst : st = As.reverse ++ .ref a :: rest) (hroom : (rest.map fun v => v.category).sum ≤ 8) (hd : d' + 1 ≤ d) (hmL : (0 : Nat) ≤ 0) (hl : ∀ X, P X → X.l = l) (hM : ∀ r, t0 = some r → vOk l yX12_step cX12_step 3 none d' (.ref a :: As) σ (.inl (eV.1 r, eV.2 r))) (kk : ∀ σ1, V P emb σ1 (pc + 3) ls rest (f σ1)) : V P emb σ pc ls st (bv t0 f) := by
  simp only [List.mem_cons, List.not_mem_nil, or_false] at hm
  rcases hm with hk | hk | hk | hk
  · exact V_callV_V (c := 12) hC hdg 1 (lw_V q968 q877 q878 q108 q883) (by decide +kernel) hk (by decide) (by decide) rfl hn hst hroom hd (by decide) hl hM kk
  · exact V_callU_V (C := "NobodyBeenAft$Open") (owner := "NobodyBeenAft$Course") (c := 13) hC hdg 1 (lw_app (List.forall_mem_cons.mpr ⟨q968, List.forall_mem_cons.mpr ⟨q879, List.forall_mem_cons.mpr ⟨q881, List.forall_mem_cons.mpr ⟨q877, List.forall_mem_cons.mpr ⟨q108, fun _ h => absurd h List.not_mem_nil⟩⟩⟩⟩⟩) (lw_meth q883)) rfl (by decide +kernel) hk (by decide) (by decide) rfl hn hst hroom hd (by decide) hl hM kk
  · exact V_callU_V (C := "NobodyBeenAft$Told") (owner := "NobodyBeenAft$Course") (c := 14) hC hdg 1 (lw_app (List.forall_mem_cons.mpr ⟨q968, List.forall_mem_cons.mpr ⟨q879, List.forall_mem_cons.mpr ⟨q882, List.forall_mem_cons.mpr ⟨q877, List.forall_mem_cons.mpr ⟨q108, fun _ h => absurd h List.not_mem_nil⟩⟩⟩⟩⟩) (lw_meth q883)) rfl (by decide +kernel) hk (by decide) (by decide) rfl hn hst hroom hd (by decide) hl hM kk
  · exact V_callU_V (C := "NobodyBeenAft$Late") (owner := "NobodyBeenAft$Course") (c := 15) hC hdg 1 (lw_app (List.forall_mem_cons.mpr ⟨q968, List.forall_mem_cons.mpr ⟨q879, List.forall_mem_cons.mpr ⟨q880, List.forall_mem_cons.mpr ⟨q877, List.forall_mem_cons.mpr ⟨q108, fun _ h => absurd h List.not_mem_nil⟩⟩⟩⟩⟩) (lw_meth q883)) rfl (by decide +kernel) hk (by decide) (by decide) rfl hn hst hroom hd (by decide) hl hM kk
def f_X12_go_38 (σ_2 : vMem) (b_1 : Nat) (v4 : Int32) : Nat → Int32 → Int32 → Option (Int32 × vMem)
  | 0, _, _ => none
  | n + 1, v2, v5 => if v4 ≤ v5 then (some (v2, σ_2)) else cka σ_2 b_1 105 v5 (vl (gi σ_2 b_1 (Int32.toNatClampNeg v5)) (fun v6 => vl (imin v2 v6) (fun v2_1 => vl (v5 + 1) (fun v5_1 => f_X12_go_38 σ_2 b_1 v4 n v2_1 v5_1))))
def f_X12_go_7 (a0 : Nat) (x1 : Int32) (k : vMem → Option (Int32 × vMem)) : Nat → vMem → Int32 → Option (Int32 × vMem)
  | 0, _, _ => none
  | n_1 + 1, σ_3, v2_2 => if x1 < v2_2 then (k σ_3) else cko σ_3 a0 [12, 13, 14, 15] (bv (f_X12_step σ_3 a0 v2_2) (fun σ_4 => vl (v2_2 + 1) (fun v2_3 => f_X12_go_7 a0 x1 k n_1 σ_4 v2_3)))
def f_X12_go (σ : vMem) (a0 : Nat) (x1 : Int32) : Option (Int32 × vMem) := cko σ a0 [12, 13, 14, 15] (bd (f_X12_begin σ a0) (fun b σ_1 => vl (fun (σ_2 : vMem) => cko σ_2 a0 [12, 13, 14, 15] (dr (gr σ_2 a0 0) (fun b_1 => cko σ_2 b_1 [105] (vl (Int32.ofNat (len σ_2 b_1)) (fun v4 => f_X12_go_38 σ_2 b_1 v4 FU 100000000 0))))) (fun k => f_X12_go_7 a0 x1 k FU σ_1 1)))
abbrev P_X12_go (l : Launch) (d n0 s0 : Nat) : vX → Prop := vMP l yX12_go cX12_go 7 (some .int) d n0 s0
theorem w_X12_go_38 {l : Launch} {d n0 s0 : Nat} (hd : 611 ≤ d) (h0 : l.stackTraces = false) (σ_2 : vMem) (b_1 : Nat) (v4 : Int32)  : ∀ (n : Nat) (v2 : Int32) (v5 : Int32), V (P_X12_go l d n0 s0) (vEmb eI) σ_2 38 [none, none, some (.int v2), some (.ref b_1), some (.int v4), some (.int v5), none] [] (f_X12_go_38 σ_2 b_1 v4 n v2 v5) := by
  have hC : vPx (P_X12_go l d n0 s0) cX12_go 7 "NobodyBeenAft$Course" (some .int) d := vMP_cx
  intro n
  induction n with
  | zero =>
    intro v2 v5
    exact V_none
  | succ n ih =>
    intro v2 v5
    refine V_eq (f_X12_go_38.eq_2 ..) ?_
    refine V_iload hC dX12_go_38 rfl ?_
    refine V_iload hC dX12_go_40 rfl ?_
    refine V_icmp_ge (tgt := 64) hC dX12_go_42 (by decide) ?_ ?_
    · refine V_iload_n hC dX12_go_64 rfl ?_
      exact V_ireturn dX12_go_65 rfl rfl
    · refine V_aload_n hC dX12_go_45 rfl ?_
      refine V_iload hC dX12_go_46 rfl ?_
      refine V_iald hC dX12_go_48 ?_
      refine V_istoreL (ls' := fun v6 => [none, none, some (.int v2), some (.ref b_1), some (.int v4), some (.int v5), some (.int v6)]) hC dX12_go_49 (by decide) rfl (fun _ => rfl) (fun v6 => ?_)
      refine V_iload_n hC dX12_go_51 rfl ?_
      refine V_iload hC dX12_go_52 rfl ?_
      refine V_mmin hC dX12_go_54 q897 q327 q90 q328 (Nat.le_of_ble_eq_true rfl) ?_
      refine V_istore_nL (ls' := fun v2_1 => [none, none, some (.int v2_1), some (.ref b_1), some (.int v4), some (.int v5), some (.int v6)]) hC dX12_go_57 (by decide) rfl (fun _ => rfl) (fun v2_1 => ?_)
      refine V_iincL (v := v5 + 1) (ls' := fun v5_1 => [none, none, some (.int v2_1), some (.ref b_1), some (.int v4), some (.int v5_1), some (.int v6)]) hC dX12_go_58 rfl (by decide) rfl rfl (fun _ => rfl) (fun v5_1 => ?_)
      refine V_goto (tgt := 38) hC dX12_go_61 (by decide) ?_
      refine V_clr [6] (ls' := [none, none, some (.int v2_1), some (.ref b_1), some (.int v4), some (.int v5_1), none]) rfl ?_
      exact ih v2_1 v5_1
theorem w_X12_go_7 {l : Launch} {d n0 s0 : Nat} (hd : 611 ≤ d) (h0 : l.stackTraces = false) (a0 : Nat) (x1 : Int32) (k : vMem → Option (Int32 × vMem)) (hk : ∀ (σ_2 : vMem), V (P_X12_go l d n0 s0) (vEmb eI) σ_2 23 [some (.ref a0), none, none, none, none, none, none] [] (k σ_2)) : ∀ (n_1 : Nat) (σ_3 : vMem) (v2_2 : Int32), V (P_X12_go l d n0 s0) (vEmb eI) σ_3 7 [some (.ref a0), some (.int x1), some (.int v2_2), none, none, none, none] [] (f_X12_go_7 a0 x1 k n_1 σ_3 v2_2) := by
  have hC : vPx (P_X12_go l d n0 s0) cX12_go 7 "NobodyBeenAft$Course" (some .int) d := vMP_cx
  intro n_1
  induction n_1 with
  | zero =>
    intro σ_3 v2_2
    exact V_none
  | succ n_1 ih =>
    intro σ_3 v2_2
    refine V_eq (f_X12_go_7.eq_2 ..) ?_
    refine V_iload_n hC dX12_go_7 rfl ?_
    refine V_iload_n hC dX12_go_8 rfl ?_
    refine V_icmp_gt (tgt := 23) hC dX12_go_9 (by decide) ?_ ?_
    · refine V_clr [1, 2] (ls' := [some (.ref a0), none, none, none, none, none, none]) rfl ?_
      exact hk σ_3
    · refine V_aload_n hC dX12_go_12 rfl ?_
      refine V_iload_n hC dX12_go_13 rfl ?_
      refine V_cko (fun hm => k_X12_92 (As := [.int v2_2]) (rest := []) (d' := 610) hC dX12_go_14 hm rfl rfl (Nat.le_of_ble_eq_true rfl) (Nat.le_trans (by decide) hd) (by decide) vMP_l (fun _ h => c_X12_step (Nat.le_refl _) h0 h) (fun σ_4 => ?_))
      refine V_iincL (v := v2_2 + 1) (ls' := fun v2_3 => [some (.ref a0), some (.int x1), some (.int v2_3), none, none, none, none]) hC dX12_go_17 rfl (by decide) rfl rfl (fun _ => rfl) (fun v2_3 => ?_)
      refine V_goto (tgt := 7) hC dX12_go_20 (by decide) ?_
      exact ih σ_4 v2_3
theorem w_X12_go {l : Launch} {d n0 s0 : Nat} (hd : 611 ≤ d) (h0 : l.stackTraces = false) (σ : vMem) (a0 : Nat) (x1 : Int32) : V (P_X12_go l d n0 s0) (vEmb eI) σ 0 [some (.ref a0), some (.int x1), none, none, none, none, none] [] (f_X12_go σ a0 x1) := by
  have hC : vPx (P_X12_go l d n0 s0) cX12_go 7 "NobodyBeenAft$Course" (some .int) d := vMP_cx
  refine V_eq (f_X12_go.eq_1 ..) ?_
  refine V_aload_n hC dX12_go_0 rfl ?_
  refine V_cko (fun hm => k_X12_88 (As := []) (rest := []) (d' := 1) hC dX12_go_1 hm rfl rfl (Nat.le_of_ble_eq_true rfl) (Nat.le_trans (by decide) hd) (by decide) vMP_l (fun _ h => c_X12_begin (Nat.le_refl _) h) (fun b σ_1 => ?_))
  refine V_pop hC dX12_go_4 rfl ?_
  refine V_iconst (v := 1) hC dX12_go_5 rfl ?_
  refine V_istore_n (ls' := [some (.ref a0), some (.int x1), some (.int 1), none, none, none, none]) hC dX12_go_6 (by decide) rfl rfl ?_
  refine V_let (B := fun k => ∀ (σ_2 : vMem), V (P_X12_go l d n0 s0) (vEmb eI) σ_2 23 [some (.ref a0), none, none, none, none, none, none] [] (k σ_2)) ?_ ?_
  · intro σ_2
    refine V_ldc hC dX12_go_23 q872 ?_
    refine V_istore_n (ls' := [some (.ref a0), none, some (.int 100000000), none, none, none, none]) hC dX12_go_25 (by decide) rfl rfl ?_
    refine V_aload_n hC dX12_go_26 rfl ?_
    refine g_X12_15 hC dX12_go_27 (fun b_1 => ?_)
    refine V_astore_n (ls' := [some (.ref a0), none, some (.int 100000000), some (.ref b_1), none, none, none]) hC dX12_go_30 (by decide) rfl rfl ?_
    refine V_aload_n hC dX12_go_31 rfl ?_
    refine V_alen (k := 105) (t0 := 4) hC dX12_go_32 (by decide) (fun _ => rfl) ?_
    refine V_istoreL (ls' := fun v4 => [some (.ref a0), none, some (.int 100000000), some (.ref b_1), some (.int v4), none, none]) hC dX12_go_33 (by decide) rfl (fun _ => rfl) (fun v4 => ?_)
    refine V_iconst (v := 0) hC dX12_go_35 rfl ?_
    refine V_istore (ls' := [some (.ref a0), none, some (.int 100000000), some (.ref b_1), some (.int v4), some (.int 0), none]) hC dX12_go_36 (by decide) rfl rfl ?_
    refine V_clr [0] (ls' := [none, none, some (.int 100000000), some (.ref b_1), some (.int v4), some (.int 0), none]) rfl ?_
    exact (w_X12_go_38 hd h0 σ_2 b_1 v4) FU 100000000 0
  · intro k hk
    exact (w_X12_go_7 hd h0 a0 x1 k hk) FU σ_1 1
theorem c_X12_go {l : Launch} {d : Nat} (hd : 611 ≤ d) (h0 : l.stackTraces = false) {σ : vMem} {a0 : Nat} {x1 : Int32} {r : Int32 × vMem} (h : f_X12_go σ a0 x1 = some r) : vOk l yX12_go cX12_go 7 (some .int) d [.ref a0, .int x1] σ (.inl ((eI).1 r, (eI).2 r)) := V_method (em := eI) [some (.ref a0), some (.int x1), none, none, none, none, none] (by decide +kernel) rfl (Nat.le_of_ble_eq_true rfl) (w_X12_go hd h0 σ a0 x1) h
/-! NobodyBeenAft$Told.go(I)I -/
def f_X14_go_8 (a0 : Nat) (x1 : Int32) (k : vMem → Int32 → Option (Int32 × vMem)) : Nat → vMem → Int32 → Int32 → Option (Int32 × vMem)
  | 0, _, _, _ => none
  | n + 1, σ_3, v2_1, v3 => cko σ_3 a0 [14] (if (gi σ_3 a0 4) ≤ v3 then (k σ_3 v2_1) else cko σ_3 a0 [14] (dr (gr σ_3 a0 3) (fun b => cka σ_3 b 105 v3 (vl (fun (σ_4 : vMem) (y : Int32) => vl (v2_1 + y) (fun v2_2 => vl (v3 + 1) (fun v3_1 => f_X14_go_8 a0 x1 k n σ_4 v2_2 v3_1))) (fun k_1 => vl (fun (σ_5 : vMem) => k_1 σ_5 0) (fun k_2 => if (gi σ_3 b (Int32.toNatClampNeg v3)) = 0 then (k_2 σ_3) else cko σ_3 a0 [14] (dr (gr σ_3 a0 5) (fun b_1 => cko σ_3 a0 [14] (dr (gr σ_3 a0 5) (fun b_2 => cko σ_3 b_2 [1] (dr (gr σ_3 b_2 0) (fun b_3 => cko σ_3 b_3 [2] (cko σ_3 b_1 [1] (bd (f_X1_delayAt σ_3 b_1 ((gi σ_3 b_3 4) + v3)) (fun r_1 σ_6 => if (v3 + r_1) ≤ x1 then (k_2 σ_6) else k_1 σ_6 1)))))))))))))))
def f_X14_go (σ : vMem) (a0 : Nat) (x1 : Int32) : Option (Int32 × vMem) := cko σ a0 [14] (bd (f_X12_go σ a0 x1) (fun r σ_1 => vl (fun (σ_2 : vMem) (v2 : Int32) => some ((imin 100000000 v2), σ_2)) (fun k => f_X14_go_8 a0 x1 k FU σ_1 r 0)))
abbrev P_X14_go (l : Launch) (d n0 s0 : Nat) : vX → Prop := vMP l yX14_go cX14_go 4 (some .int) d n0 s0
theorem w_X14_go_8 {l : Launch} {d n0 s0 : Nat} (hd : 612 ≤ d) (h0 : l.stackTraces = false) (a0 : Nat) (x1 : Int32) (k : vMem → Int32 → Option (Int32 × vMem)) (hk : ∀ (σ_2 : vMem), ∀ (v2 : Int32), V (P_X14_go l d n0 s0) (vEmb eI) σ_2 64 [none, none, some (.int v2), none] [] (k σ_2 v2)) : ∀ (n : Nat) (σ_3 : vMem) (v2_1 : Int32) (v3 : Int32), V (P_X14_go l d n0 s0) (vEmb eI) σ_3 8 [some (.ref a0), some (.int x1), some (.int v2_1), some (.int v3)] [] (f_X14_go_8 a0 x1 k n σ_3 v2_1 v3) := by
  have hC : vPx (P_X14_go l d n0 s0) cX14_go 4 "NobodyBeenAft$Told" (some .int) d := vMP_cx
  intro n
  induction n with
  | zero =>
    intro σ_3 v2_1 v3
    exact V_none
  | succ n ih =>
    intro σ_3 v2_1 v3
    refine V_eq (f_X14_go_8.eq_2 ..) ?_
    refine V_iload_n hC dX14_go_8 rfl ?_
    refine V_aload_n hC dX14_go_9 rfl ?_
    refine g_X14_19 hC dX14_go_10 ?_
    refine V_icmp_ge (tgt := 64) hC dX14_go_13 (by decide) ?_ ?_
    · refine V_clr [0, 1, 3] (ls' := [none, none, some (.int v2_1), none]) rfl ?_
      exact hk σ_3 v2_1
    · refine V_iload_n hC dX14_go_16 rfl ?_
      refine V_aload_n hC dX14_go_17 rfl ?_
      refine g_X14_15 hC dX14_go_18 (fun b => ?_)
      refine V_iload_n hC dX14_go_21 rfl ?_
      refine V_iald hC dX14_go_22 ?_
      refine V_let (B := fun k_1 => ∀ (σ_4 : vMem), ∀ (y : Int32), V (P_X14_go l d n0 s0) (vEmb eI) σ_4 56 [some (.ref a0), some (.int x1), none, some (.int v3)] [.int y, .int v2_1] (k_1 σ_4 y)) ?_ ?_
      · intro σ_4 y
        refine V_iadd hC dX14_go_56 ?_
        refine V_istore_nL (ls' := fun v2_2 => [some (.ref a0), some (.int x1), some (.int v2_2), some (.int v3)]) hC dX14_go_57 (by decide) rfl (fun _ => rfl) (fun v2_2 => ?_)
        refine V_iincL (v := v3 + 1) (ls' := fun v3_1 => [some (.ref a0), some (.int x1), some (.int v2_2), some (.int v3_1)]) hC dX14_go_58 rfl (by decide) rfl rfl (fun _ => rfl) (fun v3_1 => ?_)
        refine V_goto (tgt := 8) hC dX14_go_61 (by decide) ?_
        exact ih σ_4 v2_2 v3_1
      · intro k_1 hk_1
        refine V_let (B := fun k_2 => ∀ (σ_5 : vMem), V (P_X14_go l d n0 s0) (vEmb eI) σ_5 55 [some (.ref a0), some (.int x1), none, some (.int v3)] [.int v2_1] (k_2 σ_5)) ?_ ?_
        · intro σ_5
          refine V_iconst (v := 0) hC dX14_go_55 rfl ?_
          exact hk_1 σ_5 0
        · intro k_2 hk_2
          refine V_if_eq (tgt := 55) hC dX14_go_23 (by decide) ?_ ?_
          · refine V_clr [2] (ls' := [some (.ref a0), some (.int x1), none, some (.int v3)]) rfl ?_
            exact hk_2 σ_3
          · refine V_iload_n hC dX14_go_26 rfl ?_
            refine V_aload_n hC dX14_go_27 rfl ?_
            refine g_X14_3 hC dX14_go_28 (fun b_1 => ?_)
            refine V_aload_n hC dX14_go_31 rfl ?_
            refine g_X14_3 hC dX14_go_32 (fun b_2 => ?_)
            refine g_X14_30 hC dX14_go_35 (fun b_3 => ?_)
            refine g_X14_34 hC dX14_go_38 ?_
            refine V_iload_n hC dX14_go_41 rfl ?_
            refine V_iadd hC dX14_go_42 ?_
            refine V_cko (fun hm => V_callVN_I (As := [.int ((gi σ_3 b_3 4) + v3)]) (rest := [.int v3, .int v2_1]) (d' := 609) hC dX14_go_43 1 q687 q85 q969 q686 qs7 (by decide +kernel) (List.mem_singleton.mp hm) (by decide) (by decide) rfl rfl rfl (Nat.le_of_ble_eq_true rfl) (Nat.le_trans (by decide) hd) (by decide) vMP_l (fun _ h => c_X1_delayAt (Nat.le_refl _) h0 h) (fun r_1 σ_6 => ?_))
            refine V_iadd hC dX14_go_46 ?_
            refine V_iload_n hC dX14_go_47 rfl ?_
            refine V_icmp_le (tgt := 55) hC dX14_go_48 (by decide) ?_ ?_
            · refine V_clr [2] (ls' := [some (.ref a0), some (.int x1), none, some (.int v3)]) rfl ?_
              exact hk_2 σ_6
            · refine V_iconst (v := 1) hC dX14_go_51 rfl ?_
              refine V_goto (tgt := 56) hC dX14_go_52 (by decide) ?_
              refine V_clr [2] (ls' := [some (.ref a0), some (.int x1), none, some (.int v3)]) rfl ?_
              exact hk_1 σ_6 1
theorem w_X14_go {l : Launch} {d n0 s0 : Nat} (hd : 612 ≤ d) (h0 : l.stackTraces = false) (σ : vMem) (a0 : Nat) (x1 : Int32) : V (P_X14_go l d n0 s0) (vEmb eI) σ 0 [some (.ref a0), some (.int x1), none, none] [] (f_X14_go σ a0 x1) := by
  have hC : vPx (P_X14_go l d n0 s0) cX14_go 4 "NobodyBeenAft$Told" (some .int) d := vMP_cx
  refine V_eq (f_X14_go.eq_1 ..) ?_
  refine V_aload_n hC dX14_go_0 rfl ?_
  refine V_iload_n hC dX14_go_1 rfl ?_
  refine V_cko (fun hm => V_callSU_I (c := 14) (C := "NobodyBeenAft$Told") (As := [.int x1]) (rest := []) (d' := 611) hC dX14_go_2 1 (lw_app (List.forall_mem_cons.mpr ⟨q964, List.forall_mem_cons.mpr ⟨q1959, List.forall_mem_cons.mpr ⟨q915, List.forall_mem_cons.mpr ⟨q965, List.forall_mem_cons.mpr ⟨q108, fun _ h => absurd h List.not_mem_nil⟩⟩⟩⟩⟩) (lw_meth q966)) (by decide +kernel) (List.mem_singleton.mp hm) (by decide) (by decide) rfl rfl rfl (Nat.le_of_ble_eq_true rfl) (Nat.le_trans (by decide) hd) (by decide) vMP_l (fun _ h => c_X12_go (Nat.le_refl _) h0 h) (fun r σ_1 => ?_))
  refine V_istore_n (ls' := [some (.ref a0), some (.int x1), some (.int r), none]) hC dX14_go_5 (by decide) rfl rfl ?_
  refine V_iconst (v := 0) hC dX14_go_6 rfl ?_
  refine V_istore_n (ls' := [some (.ref a0), some (.int x1), some (.int r), some (.int 0)]) hC dX14_go_7 (by decide) rfl rfl ?_
  refine V_let (B := fun k => ∀ (σ_2 : vMem), ∀ (v2 : Int32), V (P_X14_go l d n0 s0) (vEmb eI) σ_2 64 [none, none, some (.int v2), none] [] (k σ_2 v2)) ?_ ?_
  · intro σ_2 v2
    refine V_ldc hC dX14_go_64 q970 ?_
    refine V_iload_n hC dX14_go_66 rfl ?_
    refine V_mmin hC dX14_go_67 q971 q327 q90 q328 (Nat.le_of_ble_eq_true rfl) ?_
    exact V_ireturn dX14_go_70 rfl rfl
  · intro k hk
    exact (w_X14_go_8 hd h0 a0 x1 k hk) FU σ_1 r 0
theorem c_X14_go {l : Launch} {d : Nat} (hd : 612 ≤ d) (h0 : l.stackTraces = false) {σ : vMem} {a0 : Nat} {x1 : Int32} {r : Int32 × vMem} (h : f_X14_go σ a0 x1 = some r) : vOk l yX14_go cX14_go 4 (some .int) d [.ref a0, .int x1] σ (.inl ((eI).1 r, (eI).2 r)) := V_method (em := eI) [some (.ref a0), some (.int x1), none, none] (by decide +kernel) rfl (Nat.le_of_ble_eq_true rfl) (w_X14_go hd h0 σ a0 x1) h
/-! NobodyBeenAft.plan(I)I -/
def f_X1_plan_84 (a0 : Nat) (x1 : Int32) (b : Nat) (r_1 : Int32) (v4 : Int32) (r_2 : Int32) (k : vMem → Option (Int32 × vMem)) : Nat → vMem → Option (Int32 × vMem)
  | 0, _ => none
  | n_1 + 1, σ_10 => cko σ_10 b [14] (dr (gr σ_10 b 3) (fun b_3 => cka σ_10 b_3 105 v4 (bp (f_X1_has σ_10 r_2 ((gi σ_10 b_3 (Int32.toNatClampNeg v4)) + 1)) (fun r_3 => vl (fun (σ_11 : vMem) => cko σ_11 b [14] (dr (gr σ_11 b 3) (fun b_4 => cka σ_11 b_4 105 v4 (cka σ_11 b_4 105 v4 (vl (si σ_11 b_4 (Int32.toNatClampNeg v4) ((gi σ_11 b_4 (Int32.toNatClampNeg v4)) + 1)) (fun σ_12 => f_X1_plan_84 a0 x1 b r_1 v4 r_2 k n_1 σ_12)))))) (fun k_1 => if r_3 = 0 then (k_1 σ_10) else cko σ_10 b [14] (bd (f_X14_go σ_10 b x1) (fun r_4 σ_13 => if r_4 = r_1 then (k σ_13) else k_1 σ_13)))))))
def f_X1_plan_44 (a0 : Nat) (x1 : Int32) (b : Nat) (r_1 : Int32) : Nat → vMem → Option (Int32 × vMem)
  | 0, _ => none
  | n + 1, σ_5 => cko σ_5 b [14] (if x1 ≤ (gi σ_5 b 4) then (some (r_1, σ_5)) else cko σ_5 b [14] (vl (gi σ_5 b 4) (fun v4 => cko σ_5 b [14] (bp (f_X14_may σ_5 b v4) (fun r_2 => cko σ_5 b [14] (cko σ_5 b [14] (vl (si σ_5 b 4 ((gi σ_5 b 4) + 1)) (fun σ_6 => cko σ_6 b [14] (dr (gr σ_6 b 3) (fun b_1 => cka σ_6 b_1 105 v4 (vl (si σ_6 b_1 (Int32.toNatClampNeg v4) (-1)) (fun σ_7 => vl (fun (σ_8 : vMem) => cko σ_8 b [14] (dr (gr σ_8 b 3) (fun b_2 => cka σ_8 b_2 105 v4 (cko σ_8 a0 [1] (bv (f_X1_tell σ_8 a0 (Int32.toInt64 (gi σ_8 b_2 (Int32.toNatClampNeg v4)))) (fun σ_9 => f_X1_plan_44 a0 x1 b r_1 n σ_9)))))) (fun k => f_X1_plan_84 a0 x1 b r_1 v4 r_2 k FU σ_7)))))))))))))
def f_X1_plan (σ : vMem) (a0 : Nat) (x1 : Int32) : Option (Int32 × vMem) := bp (f_X1_in σ (Int32.toInt64 x1) 1 30) (fun r => if ¬ r = 0 then (nw σ 14 6 (fun b σ_1 => bv (f_X14_init σ_1 b a0) (fun σ_2 => cko σ_2 b [14] (bd (f_X14_go σ_2 b x1) (fun r_1 σ_3 => if r_1 < 100000000 then (cko σ_3 a0 [1] (vl (si σ_3 a0 18 0) (fun σ_4 => f_X1_plan_44 a0 x1 b r_1 FU σ_4))) else some ((-2), σ_3)))))) else some ((-1), σ))
abbrev P_X1_plan (l : Launch) (d n0 s0 : Nat) : vX → Prop := vMP l yX1_plan cX1_plan 6 (some .int) d n0 s0
theorem w_X1_plan_84 {l : Launch} {d n0 s0 : Nat} (hd : 613 ≤ d) (h0 : l.stackTraces = false) (a0 : Nat) (x1 : Int32) (b : Nat) (r_1 : Int32) (v4 : Int32) (r_2 : Int32) (k : vMem → Option (Int32 × vMem)) (hk : ∀ (σ_8 : vMem), V (P_X1_plan l d n0 s0) (vEmb eI) σ_8 124 [some (.ref a0), some (.int x1), some (.ref b), some (.int r_1), some (.int v4), none] [] (k σ_8)) : ∀ (n_1 : Nat) (σ_10 : vMem), V (P_X1_plan l d n0 s0) (vEmb eI) σ_10 84 [some (.ref a0), some (.int x1), some (.ref b), some (.int r_1), some (.int v4), some (.int r_2)] [] (f_X1_plan_84 a0 x1 b r_1 v4 r_2 k n_1 σ_10) := by
  have hC : vPx (P_X1_plan l d n0 s0) cX1_plan 6 "NobodyBeenAft" (some .int) d := vMP_cx
  intro n_1
  induction n_1 with
  | zero =>
    intro σ_10
    exact V_none
  | succ n_1 ih =>
    intro σ_10
    refine V_eq (f_X1_plan_84.eq_2 ..) ?_
    refine V_iload hC dX1_plan_84 rfl ?_
    refine V_aload_n hC dX1_plan_86 rfl ?_
    refine g_X1_353 hC dX1_plan_87 (fun b_3 => ?_)
    refine V_iload hC dX1_plan_90 rfl ?_
    refine V_iald hC dX1_plan_92 ?_
    refine V_iconst (v := 1) hC dX1_plan_93 rfl ?_
    refine V_iadd hC dX1_plan_94 ?_
    refine V_callS_PI (As := [.int r_2, .int ((gi σ_10 b_3 (Int32.toNatClampNeg v4)) + 1)]) (rest := []) (d' := 0) hC dX1_plan_95 2 (lw_S q974 q893 q85 q894) (by decide +kernel) rfl rfl (Nat.le_of_ble_eq_true rfl) (Nat.le_trans (by decide) hd) (by decide) vMP_l (fun _ h => c_X1_has (Nat.le_refl _) h) (fun r_3 => ?_)
    refine V_let (B := fun k_1 => ∀ (σ_11 : vMem), V (P_X1_plan l d n0 s0) (vEmb eI) σ_11 110 [some (.ref a0), some (.int x1), some (.ref b), some (.int r_1), some (.int v4), some (.int r_2)] [] (k_1 σ_11)) ?_ ?_
    · intro σ_11
      refine V_aload_n hC dX1_plan_110 rfl ?_
      refine g_X1_353 hC dX1_plan_111 (fun b_4 => ?_)
      refine V_iload hC dX1_plan_114 rfl ?_
      refine V_dup2 hC dX1_plan_116 rfl rfl ?_
      refine V_iald hC dX1_plan_117 ?_
      refine V_iconst (v := 1) hC dX1_plan_118 rfl ?_
      refine V_iadd hC dX1_plan_119 ?_
      refine V_iast hC dX1_plan_120 (fun σ_12 => ?_)
      refine V_goto (tgt := 84) hC dX1_plan_121 (by decide) ?_
      exact ih σ_12
    · intro k_1 hk_1
      refine V_if_eq (tgt := 110) hC dX1_plan_98 (by decide) ?_ ?_
      · exact hk_1 σ_10
      · refine V_aload_n hC dX1_plan_101 rfl ?_
        refine V_iload_n hC dX1_plan_102 rfl ?_
        refine V_cko (fun hm => V_callV_I (c := 14) (As := [.int x1]) (rest := []) (d' := 612) hC dX1_plan_103 1 (lw_V q960 q961 q962 q111 q963) (by decide +kernel) (List.mem_singleton.mp hm) (by decide) (by decide) rfl rfl rfl (Nat.le_of_ble_eq_true rfl) (Nat.le_trans (by decide) hd) (by decide) vMP_l (fun _ h => c_X14_go (Nat.le_refl _) h0 h) (fun r_4 σ_13 => ?_))
        refine V_iload_n hC dX1_plan_106 rfl ?_
        refine V_icmp_eq (tgt := 124) hC dX1_plan_107 (by decide) ?_ ?_
        · refine V_clr [5] (ls' := [some (.ref a0), some (.int x1), some (.ref b), some (.int r_1), some (.int v4), none]) rfl ?_
          exact hk σ_13
        · exact hk_1 σ_13
theorem w_X1_plan_44 {l : Launch} {d n0 s0 : Nat} (hd : 613 ≤ d) (h0 : l.stackTraces = false) (a0 : Nat) (x1 : Int32) (b : Nat) (r_1 : Int32)  : ∀ (n : Nat) (σ_5 : vMem), V (P_X1_plan l d n0 s0) (vEmb eI) σ_5 44 [some (.ref a0), some (.int x1), some (.ref b), some (.int r_1), none, none] [] (f_X1_plan_44 a0 x1 b r_1 n σ_5) := by
  have hC : vPx (P_X1_plan l d n0 s0) cX1_plan 6 "NobodyBeenAft" (some .int) d := vMP_cx
  intro n
  induction n with
  | zero =>
    intro σ_5
    exact V_none
  | succ n ih =>
    intro σ_5
    refine V_eq (f_X1_plan_44.eq_2 ..) ?_
    refine V_aload_n hC dX1_plan_44 rfl ?_
    refine g_X1_349 hC dX1_plan_45 ?_
    refine V_iload_n hC dX1_plan_48 rfl ?_
    refine V_icmp_ge (tgt := 139) hC dX1_plan_49 (by decide) ?_ ?_
    · refine V_iload_n hC dX1_plan_139 rfl ?_
      exact V_ireturn dX1_plan_140 rfl rfl
    · refine V_aload_n hC dX1_plan_52 rfl ?_
      refine g_X1_349 hC dX1_plan_53 ?_
      refine V_istoreL (ls' := fun v4 => [some (.ref a0), some (.int x1), some (.ref b), some (.int r_1), some (.int v4), none]) hC dX1_plan_56 (by decide) rfl (fun _ => rfl) (fun v4 => ?_)
      refine V_aload_n hC dX1_plan_58 rfl ?_
      refine V_iload hC dX1_plan_59 rfl ?_
      refine V_cko (fun hm => V_callV_PI (c := 14) (As := [.int v4]) (rest := []) (d' := 1) hC dX1_plan_61 1 (lw_V q973 q912 q1965 q111 q913) (by decide +kernel) (List.mem_singleton.mp hm) (by decide) (by decide) rfl rfl rfl (Nat.le_of_ble_eq_true rfl) (Nat.le_trans (by decide) hd) (by decide) vMP_l (fun _ h => c_X14_may (Nat.le_refl _) h) (fun r_2 => ?_))
      refine V_istore (ls' := [some (.ref a0), some (.int x1), some (.ref b), some (.int r_1), some (.int v4), some (.int r_2)]) hC dX1_plan_64 (by decide) rfl rfl ?_
      refine V_aload_n hC dX1_plan_66 rfl ?_
      refine V_dup hC dX1_plan_67 rfl ?_
      refine g_X1_349 hC dX1_plan_68 ?_
      refine V_iconst (v := 1) hC dX1_plan_71 rfl ?_
      refine V_iadd hC dX1_plan_72 ?_
      refine p_X1_349 hC dX1_plan_73 (fun σ_6 => ?_)
      refine V_aload_n hC dX1_plan_76 rfl ?_
      refine g_X1_353 hC dX1_plan_77 (fun b_1 => ?_)
      refine V_iload hC dX1_plan_80 rfl ?_
      refine V_iconst (v := (-1)) hC dX1_plan_82 rfl ?_
      refine V_iast hC dX1_plan_83 (fun σ_7 => ?_)
      refine V_let (B := fun k => ∀ (σ_8 : vMem), V (P_X1_plan l d n0 s0) (vEmb eI) σ_8 124 [some (.ref a0), some (.int x1), some (.ref b), some (.int r_1), some (.int v4), none] [] (k σ_8)) ?_ ?_
      · intro σ_8
        refine V_aload_n hC dX1_plan_124 rfl ?_
        refine V_aload_n hC dX1_plan_125 rfl ?_
        refine g_X1_353 hC dX1_plan_126 (fun b_2 => ?_)
        refine V_iload hC dX1_plan_129 rfl ?_
        refine V_iald hC dX1_plan_131 ?_
        refine V_i2l hC dX1_plan_132 ?_
        refine V_cko (fun hm => V_callV_V (c := 1) (As := [.long (Int32.toInt64 (gi σ_8 b_2 (Int32.toNatClampNeg v4)))]) (rest := []) (d' := 0) hC dX1_plan_133 1 (lw_V q768 q770 qs17 q85 q771) (by decide +kernel) (List.mem_singleton.mp hm) (by decide) (by decide) rfl rfl rfl (Nat.le_of_ble_eq_true rfl) (Nat.le_trans (by decide) hd) (by decide) vMP_l (fun _ h => c_X1_tell (Nat.le_refl _) h) (fun σ_9 => ?_))
        refine V_goto (tgt := 44) hC dX1_plan_136 (by decide) ?_
        refine V_clr [4] (ls' := [some (.ref a0), some (.int x1), some (.ref b), some (.int r_1), none, none]) rfl ?_
        exact ih σ_9
      · intro k hk
        exact (w_X1_plan_84 hd h0 a0 x1 b r_1 v4 r_2 k hk) FU σ_7
theorem w_X1_plan {l : Launch} {d n0 s0 : Nat} (hd : 613 ≤ d) (h0 : l.stackTraces = false) (σ : vMem) (a0 : Nat) (x1 : Int32) : V (P_X1_plan l d n0 s0) (vEmb eI) σ 0 [some (.ref a0), some (.int x1), none, none, none, none] [] (f_X1_plan σ a0 x1) := by
  have hC : vPx (P_X1_plan l d n0 s0) cX1_plan 6 "NobodyBeenAft" (some .int) d := vMP_cx
  refine V_eq (f_X1_plan.eq_1 ..) ?_
  refine V_iload_n hC dX1_plan_0 rfl ?_
  refine V_i2l hC dX1_plan_1 ?_
  refine V_lconst (v := 1) hC dX1_plan_2 rfl ?_
  refine V_ldc2 hC dX1_plan_3 q939 ?_
  refine V_callS_PI (As := [.long (Int32.toInt64 x1), .long 1, .long 30]) (rest := []) (d' := 0) hC dX1_plan_6 3 (lw_S q285 q286 q85 q287) (by decide +kernel) rfl rfl (Nat.le_of_ble_eq_true rfl) (Nat.le_trans (by decide) hd) (by decide) vMP_l (fun _ h => c_X1_in (Nat.le_refl _) h) (fun r => ?_)
  refine V_if_ne (tgt := 14) hC dX1_plan_9 (by decide) ?_ ?_
  · refine V_new (c := 14) hC dX1_plan_14 q940 q941 q111 rfl (by decide) in_X14 tyX14 tyX14_ok (by decide +kernel) (fun b σ_1 => ?_)
    refine V_dup hC dX1_plan_17 rfl ?_
    refine V_aload_n hC dX1_plan_18 rfl ?_
    refine V_callIN_V (As := [.ref a0]) (rest := [.ref b]) (d' := 1) hC dX1_plan_19 1 q944 q111 q942 q943 rfl rfl (by decide +kernel) rfl rfl (Nat.le_of_ble_eq_true rfl) (Nat.le_trans (by decide) hd) (by decide) vMP_l (fun _ h => c_X14_init (Nat.le_refl _) h) (fun σ_2 => ?_)
    refine V_astore_n (ls' := [some (.ref a0), some (.int x1), some (.ref b), none, none, none]) hC dX1_plan_22 (by decide) rfl rfl ?_
    refine V_aload_n hC dX1_plan_23 rfl ?_
    refine V_iload_n hC dX1_plan_24 rfl ?_
    refine V_cko (fun hm => V_callV_I (c := 14) (As := [.int x1]) (rest := []) (d' := 612) hC dX1_plan_25 1 (lw_V q960 q961 q962 q111 q963) (by decide +kernel) (List.mem_singleton.mp hm) (by decide) (by decide) rfl rfl rfl (Nat.le_of_ble_eq_true rfl) (Nat.le_trans (by decide) hd) (by decide) vMP_l (fun _ h => c_X14_go (Nat.le_refl _) h0 h) (fun r_1 σ_3 => ?_))
    refine V_istore_n (ls' := [some (.ref a0), some (.int x1), some (.ref b), some (.int r_1), none, none]) hC dX1_plan_28 (by decide) rfl rfl ?_
    refine V_iload_n hC dX1_plan_29 rfl ?_
    refine V_ldcw hC dX1_plan_30 q972 ?_
    refine V_icmp_lt (tgt := 39) hC dX1_plan_33 (by decide) ?_ ?_
    · refine V_aload_n hC dX1_plan_39 rfl ?_
      refine V_iconst (v := 0) hC dX1_plan_40 rfl ?_
      refine p_X1_84 hC dX1_plan_41 (fun σ_4 => ?_)
      exact (w_X1_plan_44 hd h0 a0 x1 b r_1) FU σ_4
    · refine V_bipush (v := (-2)) hC dX1_plan_36 rfl ?_
      exact V_ireturn dX1_plan_38 rfl rfl
  · refine V_iconst (v := (-1)) hC dX1_plan_12 rfl ?_
    exact V_ireturn dX1_plan_13 rfl rfl
theorem c_X1_plan {l : Launch} {d : Nat} (hd : 613 ≤ d) (h0 : l.stackTraces = false) {σ : vMem} {a0 : Nat} {x1 : Int32} {r : Int32 × vMem} (h : f_X1_plan σ a0 x1 = some r) : vOk l yX1_plan cX1_plan 6 (some .int) d [.ref a0, .int x1] σ (.inl ((eI).1 r, (eI).2 r)) := V_method (em := eI) [some (.ref a0), some (.int x1), none, none, none, none] (by decide +kernel) rfl (Nat.le_of_ble_eq_true rfl) (w_X1_plan hd h0 σ a0 x1) h
/-! NobodyBeenAft$Late.<init>(LNobodyBeenAft;)V -/
def f_X15_init (σ : vMem) (a0 : Nat) (a1 : Nat) : Option (vMem) := cko σ a0 [15] (vl (sr σ a0 4 (some a1)) (fun σ_1 => bv (f_X12_init σ_1 a0 a1) (fun σ_2 => some σ_2)))
abbrev P_X15_init (l : Launch) (d n0 s0 : Nat) : vX → Prop := vMP l yX15_init cX15_init 2 none d n0 s0
theorem w_X15_init {l : Launch} {d n0 s0 : Nat} (hd : 1 ≤ d) (σ : vMem) (a0 : Nat) (a1 : Nat) : V (P_X15_init l d n0 s0) (vEmb eV) σ 0 [some (.ref a0), some (.ref a1)] [] (f_X15_init σ a0 a1) := by
  have hC : vPx (P_X15_init l d n0 s0) cX15_init 2 "NobodyBeenAft$Late" none d := vMP_cx
  refine V_eq (f_X15_init.eq_1 ..) ?_
  refine V_aload_n hC dX15_init_0 rfl ?_
  refine V_aload_n hC dX15_init_1 rfl ?_
  refine p_X15_1 hC dX15_init_2 (fun X hX => (vMP_n X hX).trans rfl) (fun σ_1 => ?_)
  refine V_aload_n hC dX15_init_5 rfl ?_
  refine V_aload_n hC dX15_init_6 rfl ?_
  refine V_callIN_V (As := [.ref a1]) (rest := []) (d' := 0) hC dX15_init_7 1 q851 q108 q984 q850 rfl rfl (by decide +kernel) rfl rfl (Nat.le_of_ble_eq_true rfl) (Nat.le_trans (by decide) hd) (by decide) vMP_l (fun _ h => c_X12_init (Nat.le_refl _) h) (fun σ_2 => ?_)
  exact V_return dX15_init_10 rfl rfl
theorem c_X15_init {l : Launch} {d : Nat} (hd : 1 ≤ d) {σ : vMem} {a0 : Nat} {a1 : Nat} {r : vMem} (h : f_X15_init σ a0 a1 = some r) : vOk l yX15_init cX15_init 2 none d [.ref a0, .ref a1] σ (.inl ((eV).1 r, (eV).2 r)) := V_method (em := eV) [some (.ref a0), some (.ref a1)] (by decide +kernel) rfl (Nat.le_of_ble_eq_true rfl) (w_X15_init hd σ a0 a1) h
/-! NobodyBeenAft.latest(I)I -/
def f_X1_latest_30 (x1 : Int32) (b : Nat) (k : vMem → Option (Int32 × vMem)) : Nat → vMem → Option (Int32 × vMem)
  | 0, _ => none
  | n + 1, σ_5 => cko σ_5 b [15] (if (gi σ_5 b 3) < 0 then (some ((-2), σ_5)) else cko σ_5 b [15] (bd (f_X12_go σ_5 b x1) (fun r_1 σ_6 => if 100000000 ≤ r_1 then (cko σ_6 b [15] (cko σ_6 b [15] (vl (si σ_6 b 3 ((gi σ_6 b 3) - 1)) (fun σ_7 => f_X1_latest_30 x1 b k n σ_7)))) else k σ_6)))
def f_X1_latest (σ : vMem) (a0 : Nat) (x1 : Int32) : Option (Int32 × vMem) := bp (f_X1_in σ (Int32.toInt64 x1) 1 30) (fun r => if ¬ r = 0 then (nw σ 15 5 (fun b σ_1 => bv (f_X15_init σ_1 b a0) (fun σ_2 => cko σ_2 b [15] (vl (si σ_2 b 3 (x1 - 1)) (fun σ_3 => vl (fun (σ_4 : vMem) => cko σ_4 b [15] (some ((gi σ_4 b 3), σ_4))) (fun k => f_X1_latest_30 x1 b k FU σ_3)))))) else some ((-1), σ))
abbrev P_X1_latest (l : Launch) (d n0 s0 : Nat) : vX → Prop := vMP l yX1_latest cX1_latest 3 (some .int) d n0 s0
theorem w_X1_latest_30 {l : Launch} {d n0 s0 : Nat} (hd : 612 ≤ d) (h0 : l.stackTraces = false) (x1 : Int32) (b : Nat) (k : vMem → Option (Int32 × vMem)) (hk : ∀ (σ_4 : vMem), V (P_X1_latest l d n0 s0) (vEmb eI) σ_4 48 [none, none, some (.ref b)] [] (k σ_4)) : ∀ (n : Nat) (σ_5 : vMem), V (P_X1_latest l d n0 s0) (vEmb eI) σ_5 30 [none, some (.int x1), some (.ref b)] [] (f_X1_latest_30 x1 b k n σ_5) := by
  have hC : vPx (P_X1_latest l d n0 s0) cX1_latest 3 "NobodyBeenAft" (some .int) d := vMP_cx
  intro n
  induction n with
  | zero =>
    intro σ_5
    exact V_none
  | succ n ih =>
    intro σ_5
    refine V_eq (f_X1_latest_30.eq_2 ..) ?_
    refine V_aload_n hC dX1_latest_30 rfl ?_
    refine g_X1_357 hC dX1_latest_31 ?_
    refine V_if_lt (tgt := 66) hC dX1_latest_34 (by decide) ?_ ?_
    · refine V_bipush (v := (-2)) hC dX1_latest_66 rfl ?_
      exact V_ireturn dX1_latest_68 rfl rfl
    · refine V_aload_n hC dX1_latest_37 rfl ?_
      refine V_iload_n hC dX1_latest_38 rfl ?_
      refine V_cko (fun hm => V_callU_I (C := "NobodyBeenAft$Late") (owner := "NobodyBeenAft$Course") (c := 15) (As := [.int x1]) (rest := []) (d' := 611) hC dX1_latest_39 1 (lw_app (List.forall_mem_cons.mpr ⟨q995, List.forall_mem_cons.mpr ⟨q996, List.forall_mem_cons.mpr ⟨q998, List.forall_mem_cons.mpr ⟨q965, List.forall_mem_cons.mpr ⟨q108, fun _ h => absurd h List.not_mem_nil⟩⟩⟩⟩⟩) (lw_meth q966)) rfl (by decide +kernel) (List.mem_singleton.mp hm) (by decide) (by decide) rfl rfl rfl (Nat.le_of_ble_eq_true rfl) (Nat.le_trans (by decide) hd) (by decide) vMP_l (fun _ h => c_X12_go (Nat.le_refl _) h0 h) (fun r_1 σ_6 => ?_))
      refine V_ldcw hC dX1_latest_42 q972 ?_
      refine V_icmp_ge (tgt := 53) hC dX1_latest_45 (by decide) ?_ ?_
      · refine V_aload_n hC dX1_latest_53 rfl ?_
        refine V_dup hC dX1_latest_54 rfl ?_
        refine g_X1_357 hC dX1_latest_55 ?_
        refine V_iconst (v := 1) hC dX1_latest_58 rfl ?_
        refine V_isub hC dX1_latest_59 ?_
        refine p_X1_357 hC dX1_latest_60 (fun σ_7 => ?_)
        refine V_goto (tgt := 30) hC dX1_latest_63 (by decide) ?_
        exact ih σ_7
      · refine V_clr [1] (ls' := [none, none, some (.ref b)]) rfl ?_
        exact hk σ_6
theorem w_X1_latest {l : Launch} {d n0 s0 : Nat} (hd : 612 ≤ d) (h0 : l.stackTraces = false) (σ : vMem) (a0 : Nat) (x1 : Int32) : V (P_X1_latest l d n0 s0) (vEmb eI) σ 0 [some (.ref a0), some (.int x1), none] [] (f_X1_latest σ a0 x1) := by
  have hC : vPx (P_X1_latest l d n0 s0) cX1_latest 3 "NobodyBeenAft" (some .int) d := vMP_cx
  refine V_eq (f_X1_latest.eq_1 ..) ?_
  refine V_iload_n hC dX1_latest_0 rfl ?_
  refine V_i2l hC dX1_latest_1 ?_
  refine V_lconst (v := 1) hC dX1_latest_2 rfl ?_
  refine V_ldc2 hC dX1_latest_3 q939 ?_
  refine V_callS_PI (As := [.long (Int32.toInt64 x1), .long 1, .long 30]) (rest := []) (d' := 0) hC dX1_latest_6 3 (lw_S q285 q286 q85 q287) (by decide +kernel) rfl rfl (Nat.le_of_ble_eq_true rfl) (Nat.le_trans (by decide) hd) (by decide) vMP_l (fun _ h => c_X1_in (Nat.le_refl _) h) (fun r => ?_)
  refine V_if_ne (tgt := 14) hC dX1_latest_9 (by decide) ?_ ?_
  · refine V_new (c := 15) hC dX1_latest_14 q979 q980 q112 rfl (by decide) in_X15 tyX15 tyX15_ok (by decide +kernel) (fun b σ_1 => ?_)
    refine V_dup hC dX1_latest_17 rfl ?_
    refine V_aload_n hC dX1_latest_18 rfl ?_
    refine V_callIN_V (As := [.ref a0]) (rest := [.ref b]) (d' := 1) hC dX1_latest_19 1 q983 q112 q981 q982 rfl rfl (by decide +kernel) rfl rfl (Nat.le_of_ble_eq_true rfl) (Nat.le_trans (by decide) hd) (by decide) vMP_l (fun _ h => c_X15_init (Nat.le_refl _) h) (fun σ_2 => ?_)
    refine V_astore_n (ls' := [some (.ref a0), some (.int x1), some (.ref b)]) hC dX1_latest_22 (by decide) rfl rfl ?_
    refine V_aload_n hC dX1_latest_23 rfl ?_
    refine V_iload_n hC dX1_latest_24 rfl ?_
    refine V_iconst (v := 1) hC dX1_latest_25 rfl ?_
    refine V_isub hC dX1_latest_26 ?_
    refine p_X1_357 hC dX1_latest_27 (fun σ_3 => ?_)
    refine V_let (B := fun k => ∀ (σ_4 : vMem), V (P_X1_latest l d n0 s0) (vEmb eI) σ_4 48 [none, none, some (.ref b)] [] (k σ_4)) ?_ ?_
    · intro σ_4
      refine V_aload_n hC dX1_latest_48 rfl ?_
      refine g_X1_357 hC dX1_latest_49 ?_
      exact V_ireturn dX1_latest_52 rfl rfl
    · intro k hk
      refine V_clr [0] (ls' := [none, some (.int x1), some (.ref b)]) rfl ?_
      exact (w_X1_latest_30 hd h0 x1 b k hk) FU σ_3
  · refine V_iconst (v := (-1)) hC dX1_latest_12 rfl ?_
    exact V_ireturn dX1_latest_13 rfl rfl
theorem c_X1_latest {l : Launch} {d : Nat} (hd : 612 ≤ d) (h0 : l.stackTraces = false) {σ : vMem} {a0 : Nat} {x1 : Int32} {r : Int32 × vMem} (h : f_X1_latest σ a0 x1 = some r) : vOk l yX1_latest cX1_latest 3 (some .int) d [.ref a0, .int x1] σ (.inl ((eI).1 r, (eI).2 r)) := V_method (em := eI) [some (.ref a0), some (.int x1), none] (by decide +kernel) rfl (Nat.le_of_ble_eq_true rfl) (w_X1_latest hd h0 σ a0 x1) h
/-! NobodyBeenAft.lanes(I)I -/
theorem k_X1_362 {α : Type} {P : vX → Prop} {emb : α → vRes} {cc : ByteArray} {nL : Nat} {ret : Option FieldType} {d : Nat} {σ : vMem} {pc : Nat} {ls : List (Option Value)} {st rest : List Value} {t0 : Option (Int32 × vMem)} {f : Int32 → vMem → Option α} {l : Launch} {d' a : Nat} {As : List Value} (hC : vPx P cc nL "NobodyBeenAft" ret d) (hdg : decode cc pc = .ok (.invokevirtual 362, 3)) (hm : knd σ a ∈ ([12, 13, 14, 15] : List Nat)) (hn : As.length = 1) (hst : st = As.reverse ++ .ref a :: rest) (hroom : (rest.map fun v => v.category).sum ≤ 8) (hd : d' + 1 ≤ d) (hl : ∀ X, P X → X.l = l) (h12 : knd σ a = 12 → ∀ r, t0 = some r → vOk l yX12_go cX12_go 7 (some .int) d' (.ref a :: As) σ (.inl (eI.1 r, eI.2 r))) (h13 : knd σ a = 13 → ∀ r, t0 = some r → vOk l yX12_go cX12_go 7 (some .int) d' (.ref a :: As) σ (.inl (eI.1 r, eI.2 r))) (h14 : knd σ a = 14 → ∀ r, t0 = some r → vOk l yX14_go cX14_go 4 (some .int) d' (.ref a :: As) σ (.inl (eI.1 r, eI.2 r))) (h15 : knd σ a = 15 → ∀ r, t0 = some r → vOk l yX12_go cX12_go 7 (some .int) d' (.ref a :: As) σ (.inl (eI.1 r, eI.2 r))) (kk : ∀ x σ1, V P emb σ1 (pc + 3) ls (.int x :: rest) (f x σ1)) : V P emb σ pc ls st (bd t0 f) := by
  simp only [List.mem_cons, List.not_mem_nil, or_false] at hm
  rcases hm with hk | hk | hk | hk
  · exact V_callV_I (c := 12) hC hdg 1 (lw_V q1010 q965 q1966 q108 q966) (by decide +kernel) hk (by decide) (by decide) rfl hn hst hroom hd (by decide) hl (h12 hk) kk
  · exact V_callU_I (C := "NobodyBeenAft$Open") (owner := "NobodyBeenAft$Course") (c := 13) hC hdg 1 (lw_app (List.forall_mem_cons.mpr ⟨q1010, List.forall_mem_cons.mpr ⟨q1959, List.forall_mem_cons.mpr ⟨q1968, List.forall_mem_cons.mpr ⟨q965, List.forall_mem_cons.mpr ⟨q108, fun _ h => absurd h List.not_mem_nil⟩⟩⟩⟩⟩) (lw_meth q966)) rfl (by decide +kernel) hk (by decide) (by decide) rfl hn hst hroom hd (by decide) hl (h13 hk) kk
  · exact V_callO_I (C := "NobodyBeenAft$Told") (owner := "NobodyBeenAft$Course") (c := 14) hC hdg 1 (lw_app (List.forall_mem_cons.mpr ⟨q1010, List.forall_mem_cons.mpr ⟨q1959, List.forall_mem_cons.mpr ⟨q965, List.forall_mem_cons.mpr ⟨q1969, List.forall_mem_cons.mpr ⟨q961, List.forall_mem_cons.mpr ⟨q111, fun _ h => absurd h List.not_mem_nil⟩⟩⟩⟩⟩⟩) (lw_meth q963)) q966 (by decide +kernel) hk (by decide) (by decide) rfl hn hst hroom hd (by decide) hl (h14 hk) kk
  · exact V_callU_I (C := "NobodyBeenAft$Late") (owner := "NobodyBeenAft$Course") (c := 15) hC hdg 1 (lw_app (List.forall_mem_cons.mpr ⟨q1010, List.forall_mem_cons.mpr ⟨q1959, List.forall_mem_cons.mpr ⟨q1967, List.forall_mem_cons.mpr ⟨q965, List.forall_mem_cons.mpr ⟨q108, fun _ h => absurd h List.not_mem_nil⟩⟩⟩⟩⟩) (lw_meth q966)) rfl (by decide +kernel) hk (by decide) (by decide) rfl hn hst hroom hd (by decide) hl (h15 hk) kk
def f_X1_lanes (σ : vMem) (a0 : Nat) (x1 : Int32) : Option (Int32 × vMem) := bp (f_X1_in σ (Int32.toInt64 x1) 0 30) (fun r => if ¬ r = 0 then (nw σ 12 3 (fun b σ_1 => bv (f_X12_init σ_1 b a0) (fun σ_2 => cko σ_2 b [12, 13, 14, 15] (bd (if knd σ_2 b = 12 then f_X12_go σ_2 b x1 else if knd σ_2 b = 13 then f_X12_go σ_2 b x1 else if knd σ_2 b = 14 then f_X14_go σ_2 b x1 else cko σ_2 b [15] (f_X12_go σ_2 b x1)) (fun r_1 σ_3 => cko σ_3 a0 [1] (vl (si σ_3 a0 18 0) (fun σ_4 => cko σ_4 b [12, 13, 14, 15] (bp (f_X12_lanes σ_4 b) (fun r_2 => bp (f_J7_bitCount σ_4 r_2) (fun r_3 => cko σ_4 a0 [1] (bv (f_X1_tell σ_4 a0 (Int32.toInt64 r_3)) (fun σ_5 => cko σ_5 b [12, 13, 14, 15] (bp (f_X12_lanes σ_5 b) (fun r_4 => some (r_4, σ_5))))))))))))))) else some ((-1), σ))
abbrev P_X1_lanes (l : Launch) (d n0 s0 : Nat) : vX → Prop := vMP l yX1_lanes cX1_lanes 3 (some .int) d n0 s0
theorem w_X1_lanes {l : Launch} {d n0 s0 : Nat} (hd : 613 ≤ d) (h0 : l.stackTraces = false) (σ : vMem) (a0 : Nat) (x1 : Int32) : V (P_X1_lanes l d n0 s0) (vEmb eI) σ 0 [some (.ref a0), some (.int x1), none] [] (f_X1_lanes σ a0 x1) := by
  have hC : vPx (P_X1_lanes l d n0 s0) cX1_lanes 3 "NobodyBeenAft" (some .int) d := vMP_cx
  refine V_eq (f_X1_lanes.eq_1 ..) ?_
  refine V_iload_n hC dX1_lanes_0 rfl ?_
  refine V_i2l hC dX1_lanes_1 ?_
  refine V_lconst (v := 0) hC dX1_lanes_2 rfl ?_
  refine V_ldc2 hC dX1_lanes_3 q939 ?_
  refine V_callS_PI (As := [.long (Int32.toInt64 x1), .long 0, .long 30]) (rest := []) (d' := 0) hC dX1_lanes_6 3 (lw_S q285 q286 q85 q287) (by decide +kernel) rfl rfl (Nat.le_of_ble_eq_true rfl) (Nat.le_trans (by decide) hd) (by decide) vMP_l (fun _ h => c_X1_in (Nat.le_refl _) h) (fun r => ?_)
  refine V_if_ne (tgt := 14) hC dX1_lanes_9 (by decide) ?_ ?_
  · refine V_new (c := 12) hC dX1_lanes_14 q1003 q1004 q108 rfl (by decide) in_X12 tyX12 tyX12_ok (by decide +kernel) (fun b σ_1 => ?_)
    refine V_dup hC dX1_lanes_17 rfl ?_
    refine V_aload_n hC dX1_lanes_18 rfl ?_
    refine V_callIN_V (As := [.ref a0]) (rest := [.ref b]) (d' := 0) hC dX1_lanes_19 1 q851 q108 q1005 q850 rfl rfl (by decide +kernel) rfl rfl (Nat.le_of_ble_eq_true rfl) (Nat.le_trans (by decide) hd) (by decide) vMP_l (fun _ h => c_X12_init (Nat.le_refl _) h) (fun σ_2 => ?_)
    refine V_astore_n (ls' := [some (.ref a0), some (.int x1), some (.ref b)]) hC dX1_lanes_22 (by decide) rfl rfl ?_
    refine V_aload_n hC dX1_lanes_23 rfl ?_
    refine V_iload_n hC dX1_lanes_24 rfl ?_
    refine V_cko (fun hm => k_X1_362 (As := [.int x1]) (rest := []) (d' := 612) hC dX1_lanes_25 hm rfl rfl (Nat.le_of_ble_eq_true rfl) (Nat.le_trans (by decide) hd) vMP_l (fun hk9 _ h => c_X12_go (by decide) h0 (by simpa [hk9, cko] using h)) (fun hk9 _ h => c_X12_go (by decide) h0 (by simpa [hk9, cko] using h)) (fun hk9 _ h => c_X14_go (by decide) h0 (by simpa [hk9, cko] using h)) (fun hk9 _ h => c_X12_go (by decide) h0 (by simpa [hk9, cko] using h)) (fun r_1 σ_3 => ?_))
    refine V_pop hC dX1_lanes_28 rfl ?_
    refine V_aload_n hC dX1_lanes_29 rfl ?_
    refine V_iconst (v := 0) hC dX1_lanes_30 rfl ?_
    refine p_X1_84 hC dX1_lanes_31 (fun σ_4 => ?_)
    refine V_aload_n hC dX1_lanes_34 rfl ?_
    refine V_aload_n hC dX1_lanes_35 rfl ?_
    refine V_cko (fun hm => k_X1_336 (As := []) (rest := [.ref a0]) (d' := 0) hC dX1_lanes_36 hm rfl rfl (Nat.le_of_ble_eq_true rfl) (Nat.le_trans (by decide) hd) (by decide) vMP_l (fun _ h => c_X12_lanes (Nat.le_refl _) h) (fun r_2 => ?_))
    refine V_callS_PI (As := [.int r_2]) (rest := [.ref a0]) (d' := 0) hC dX1_lanes_39 1 (lw_S q718 q624 q103 q625) (by decide +kernel) rfl rfl (Nat.le_of_ble_eq_true rfl) (Nat.le_trans (by decide) hd) (by decide) vMP_l (fun _ h => c_J7_bitCount (Nat.le_refl _) h) (fun r_3 => ?_)
    refine V_i2l hC dX1_lanes_42 ?_
    refine V_cko (fun hm => V_callV_V (c := 1) (As := [.long (Int32.toInt64 r_3)]) (rest := []) (d' := 0) hC dX1_lanes_43 1 (lw_V q768 q770 qs17 q85 q771) (by decide +kernel) (List.mem_singleton.mp hm) (by decide) (by decide) rfl rfl rfl (Nat.le_of_ble_eq_true rfl) (Nat.le_trans (by decide) hd) (by decide) vMP_l (fun _ h => c_X1_tell (Nat.le_refl _) h) (fun σ_5 => ?_))
    refine V_aload_n hC dX1_lanes_46 rfl ?_
    refine V_cko (fun hm => k_X1_336 (As := []) (rest := []) (d' := 0) hC dX1_lanes_47 hm rfl rfl (Nat.le_of_ble_eq_true rfl) (Nat.le_trans (by decide) hd) (by decide) vMP_l (fun _ h => c_X12_lanes (Nat.le_refl _) h) (fun r_4 => ?_))
    exact V_ireturn dX1_lanes_50 rfl rfl
  · refine V_iconst (v := (-1)) hC dX1_lanes_12 rfl ?_
    exact V_ireturn dX1_lanes_13 rfl rfl
theorem c_X1_lanes {l : Launch} {d : Nat} (hd : 613 ≤ d) (h0 : l.stackTraces = false) {σ : vMem} {a0 : Nat} {x1 : Int32} {r : Int32 × vMem} (h : f_X1_lanes σ a0 x1 = some r) : vOk l yX1_lanes cX1_lanes 3 (some .int) d [.ref a0, .int x1] σ (.inl ((eI).1 r, (eI).2 r)) := V_method (em := eI) [some (.ref a0), some (.int x1), none] (by decide +kernel) rfl (Nat.le_of_ble_eq_true rfl) (w_X1_lanes hd h0 σ a0 x1) h
/-! NobodyBeenAft.rocksIn(II)I -/
def f_X1_rocksIn_5 (σ : vMem) (a0 : Nat) (x1 : Int32) (x2 : Int32) : Nat → Int32 → Int32 → Option (Int32)
  | 0, _, _ => none
  | n + 1, v3, v4 => cko σ a0 [1] (if (gi σ a0 11) ≤ v4 then (some v3) else cko σ a0 [1] (dr (gr σ a0 6) (fun b => cka σ b 105 v4 (vl (fun (y : Int32) => vl (v3 + y) (fun v3_1 => vl (v4 + 1) (fun v4_1 => f_X1_rocksIn_5 σ a0 x1 x2 n v3_1 v4_1))) (fun k => vl (k 0) (fun k_1 => if ¬ (gi σ b (Int32.toNatClampNeg v4)) = x1 then k_1 else cko σ a0 [1] (dr (gr σ a0 5) (fun b_1 => cka σ b_1 105 v4 (cko σ a0 [1] (dr (gr σ a0 0) (fun b_2 => cko σ b_2 [2] (cko σ a0 [1] (dr (gr σ a0 0) (fun b_3 => cko σ b_3 [2] (bp (f_X1_in σ (Int32.toInt64 (gi σ b_1 (Int32.toNatClampNeg v4))) ((Int32.toInt64 (gi σ b_2 4)) + 1) ((Int32.toInt64 (gi σ b_3 4)) + (Int32.toInt64 x2))) (fun r => if r = 0 then k_1 else k 1))))))))))))))))
def f_X1_rocksIn (σ : vMem) (a0 : Nat) (x1 : Int32) (x2 : Int32) : Option (Int32) := f_X1_rocksIn_5 σ a0 x1 x2 FU 0 0
abbrev P_X1_rocksIn (l : Launch) (d n0 s0 : Nat) : vX → Prop := vMP l yX1_rocksIn cX1_rocksIn 5 (some .int) d n0 s0
theorem w_X1_rocksIn_5 {l : Launch} {d n0 s0 : Nat} (hd : 1 ≤ d) (σ : vMem) (a0 : Nat) (x1 : Int32) (x2 : Int32)  : ∀ (n : Nat) (v3 : Int32) (v4 : Int32), V (P_X1_rocksIn l d n0 s0) (vEmb (ePI σ)) σ 5 [some (.ref a0), some (.int x1), some (.int x2), some (.int v3), some (.int v4)] [] (f_X1_rocksIn_5 σ a0 x1 x2 n v3 v4) := by
  have hC : vPx (P_X1_rocksIn l d n0 s0) cX1_rocksIn 5 "NobodyBeenAft" (some .int) d := vMP_cx
  intro n
  induction n with
  | zero =>
    intro v3 v4
    exact V_none
  | succ n ih =>
    intro v3 v4
    refine V_eq (f_X1_rocksIn_5.eq_2 ..) ?_
    refine V_iload hC dX1_rocksIn_5 rfl ?_
    refine V_aload_n hC dX1_rocksIn_7 rfl ?_
    refine g_X1_139 hC dX1_rocksIn_8 ?_
    refine V_icmp_ge (tgt := 74) hC dX1_rocksIn_11 (by decide) ?_ ?_
    · refine V_iload_n hC dX1_rocksIn_74 rfl ?_
      exact V_ireturn dX1_rocksIn_75 rfl rfl
    · refine V_iload_n hC dX1_rocksIn_14 rfl ?_
      refine V_aload_n hC dX1_rocksIn_15 rfl ?_
      refine g_X1_42 hC dX1_rocksIn_16 (fun b => ?_)
      refine V_iload hC dX1_rocksIn_19 rfl ?_
      refine V_iald hC dX1_rocksIn_21 ?_
      refine V_iload_n hC dX1_rocksIn_22 rfl ?_
      refine V_let (B := fun k => ∀ (y : Int32), V (P_X1_rocksIn l d n0 s0) (vEmb (ePI σ)) σ 66 [some (.ref a0), some (.int x1), some (.int x2), none, some (.int v4)] [.int y, .int v3] (k y)) ?_ ?_
      · intro y
        refine V_iadd hC dX1_rocksIn_66 ?_
        refine V_istore_nL (ls' := fun v3_1 => [some (.ref a0), some (.int x1), some (.int x2), some (.int v3_1), some (.int v4)]) hC dX1_rocksIn_67 (by decide) rfl (fun _ => rfl) (fun v3_1 => ?_)
        refine V_iincL (v := v4 + 1) (ls' := fun v4_1 => [some (.ref a0), some (.int x1), some (.int x2), some (.int v3_1), some (.int v4_1)]) hC dX1_rocksIn_68 rfl (by decide) rfl rfl (fun _ => rfl) (fun v4_1 => ?_)
        refine V_goto (tgt := 5) hC dX1_rocksIn_71 (by decide) ?_
        exact ih v3_1 v4_1
      · intro k hk
        refine V_let (B := fun k_1 => V (P_X1_rocksIn l d n0 s0) (vEmb (ePI σ)) σ 65 [some (.ref a0), some (.int x1), some (.int x2), none, some (.int v4)] [.int v3] (k_1)) ?_ ?_
        · skip
          refine V_iconst (v := 0) hC dX1_rocksIn_65 rfl ?_
          exact hk 0
        · intro k_1 hk_1
          refine V_icmp_ne (tgt := 65) hC dX1_rocksIn_23 (by decide) ?_ ?_
          · refine V_clr [3] (ls' := [some (.ref a0), some (.int x1), some (.int x2), none, some (.int v4)]) rfl ?_
            exact hk_1
          · refine V_aload_n hC dX1_rocksIn_26 rfl ?_
            refine g_X1_39 hC dX1_rocksIn_27 (fun b_1 => ?_)
            refine V_iload hC dX1_rocksIn_30 rfl ?_
            refine V_iald hC dX1_rocksIn_32 ?_
            refine V_i2l hC dX1_rocksIn_33 ?_
            refine V_aload_n hC dX1_rocksIn_34 rfl ?_
            refine g_X1_21 hC dX1_rocksIn_35 (fun b_2 => ?_)
            refine g_X1_215 hC dX1_rocksIn_38 ?_
            refine V_i2l hC dX1_rocksIn_41 ?_
            refine V_lconst (v := 1) hC dX1_rocksIn_42 rfl ?_
            refine V_ladd hC dX1_rocksIn_43 ?_
            refine V_aload_n hC dX1_rocksIn_44 rfl ?_
            refine g_X1_21 hC dX1_rocksIn_45 (fun b_3 => ?_)
            refine g_X1_215 hC dX1_rocksIn_48 ?_
            refine V_i2l hC dX1_rocksIn_51 ?_
            refine V_iload_n hC dX1_rocksIn_52 rfl ?_
            refine V_i2l hC dX1_rocksIn_53 ?_
            refine V_ladd hC dX1_rocksIn_54 ?_
            refine V_callS_PI (As := [.long (Int32.toInt64 (gi σ b_1 (Int32.toNatClampNeg v4))), .long ((Int32.toInt64 (gi σ b_2 4)) + 1), .long ((Int32.toInt64 (gi σ b_3 4)) + (Int32.toInt64 x2))]) (rest := [.int v3]) (d' := 0) hC dX1_rocksIn_55 3 (lw_S q285 q286 q85 q287) (by decide +kernel) rfl rfl (Nat.le_of_ble_eq_true rfl) (Nat.le_trans (by decide) hd) (by decide) vMP_l (fun _ h => c_X1_in (Nat.le_refl _) h) (fun r => ?_)
            refine V_if_eq (tgt := 65) hC dX1_rocksIn_58 (by decide) ?_ ?_
            · refine V_clr [3] (ls' := [some (.ref a0), some (.int x1), some (.int x2), none, some (.int v4)]) rfl ?_
              exact hk_1
            · refine V_iconst (v := 1) hC dX1_rocksIn_61 rfl ?_
              refine V_goto (tgt := 66) hC dX1_rocksIn_62 (by decide) ?_
              refine V_clr [3] (ls' := [some (.ref a0), some (.int x1), some (.int x2), none, some (.int v4)]) rfl ?_
              exact hk 1
theorem w_X1_rocksIn {l : Launch} {d n0 s0 : Nat} (hd : 1 ≤ d) (σ : vMem) (a0 : Nat) (x1 : Int32) (x2 : Int32) : V (P_X1_rocksIn l d n0 s0) (vEmb (ePI σ)) σ 0 [some (.ref a0), some (.int x1), some (.int x2), none, none] [] (f_X1_rocksIn σ a0 x1 x2) := by
  have hC : vPx (P_X1_rocksIn l d n0 s0) cX1_rocksIn 5 "NobodyBeenAft" (some .int) d := vMP_cx
  refine V_eq (f_X1_rocksIn.eq_1 ..) ?_
  refine V_iconst (v := 0) hC dX1_rocksIn_0 rfl ?_
  refine V_istore_n (ls' := [some (.ref a0), some (.int x1), some (.int x2), some (.int 0), none]) hC dX1_rocksIn_1 (by decide) rfl rfl ?_
  refine V_iconst (v := 0) hC dX1_rocksIn_2 rfl ?_
  refine V_istore (ls' := [some (.ref a0), some (.int x1), some (.int x2), some (.int 0), some (.int 0)]) hC dX1_rocksIn_3 (by decide) rfl rfl ?_
  exact (w_X1_rocksIn_5 hd σ a0 x1 x2) FU 0 0
theorem c_X1_rocksIn {l : Launch} {d : Nat} (hd : 1 ≤ d) {σ : vMem} {a0 : Nat} {x1 : Int32} {x2 : Int32} {r : Int32} (h : f_X1_rocksIn σ a0 x1 x2 = some r) : vOk l yX1_rocksIn cX1_rocksIn 5 (some .int) d [.ref a0, .int x1, .int x2] σ (.inl (((ePI σ)).1 r, ((ePI σ)).2 r)) := V_method (em := (ePI σ)) [some (.ref a0), some (.int x1), some (.int x2), none, none] (by decide +kernel) rfl (Nat.le_of_ble_eq_true rfl) (w_X1_rocksIn hd σ a0 x1 x2) h
/-! NobodyBeenAft.safest(I)I -/
def f_X1_safest_41 (σ : vMem) (a0 : Nat) (x1 : Int32) (v3 : Int32) (k_1 : Int32 → Option (Int32 × vMem)) : Nat → Int32 → Int32 → Option (Int32 × vMem)
  | 0, _, _ => none
  | n_1 + 1, v2_4, v4_1 => cko σ a0 [1] (dr (gr σ a0 0) (fun b_3 => cko σ b_3 [2] (if ((gi σ b_3 5) + v3) < v4_1 then (k_1 v2_4) else bp (f_X1_in σ (Int32.toInt64 v4_1) 0 8) (fun r_3 => vl (fun (v2_5 : Int32) => vl (v4_1 + (2 * v3)) (fun v4_2 => f_X1_safest_41 σ a0 x1 v3 k_1 n_1 v2_5 v4_2)) (fun k_2 => if r_3 = 0 then (k_2 v2_4) else cko σ a0 [1] (bp (f_X1_rocksIn σ a0 v4_1 x1) (fun r_4 => cko σ a0 [1] (bp (f_X1_rocksIn σ a0 v2_4 x1) (fun r_5 => if r_5 ≤ r_4 then (k_2 v2_4) else k_2 v4_1)))))))))
def f_X1_safest_24 (σ : vMem) (a0 : Nat) (x1 : Int32) (k : Int32 → Option (Int32 × vMem)) : Nat → Int32 → Int32 → Option (Int32 × vMem)
  | 0, _, _ => none
  | n + 1, v2_2, v3 => if 9 ≤ v3 then (k v2_2) else cko σ a0 [1] (dr (gr σ a0 0) (fun b_2 => cko σ b_2 [2] (vl ((gi σ b_2 5) - v3) (fun v4 => vl (fun (v2_3 : Int32) => vl (v3 + 1) (fun v3_1 => f_X1_safest_24 σ a0 x1 k n v2_3 v3_1)) (fun k_1 => f_X1_safest_41 σ a0 x1 v3 k_1 FU v2_2 v4)))))
def f_X1_safest (σ : vMem) (a0 : Nat) (x1 : Int32) : Option (Int32 × vMem) := bp (f_X1_in σ (Int32.toInt64 x1) 1 999) (fun r => if ¬ r = 0 then (cko σ a0 [1] (dr (gr σ a0 0) (fun b => cko σ b [2] (vl (gi σ b 5) (fun v2 => vl (fun (v2_1 : Int32) => cko σ a0 [1] (vl (si σ a0 18 0) (fun σ_1 => cko σ_1 a0 [1] (bp (f_X1_rocksIn σ_1 a0 v2_1 x1) (fun r_1 => cko σ_1 a0 [1] (bv (f_X1_tell σ_1 a0 (Int32.toInt64 r_1)) (fun σ_2 => cko σ_2 a0 [1] (dr (gr σ_2 a0 0) (fun b_1 => cko σ_2 b_1 [2] (cko σ_2 a0 [1] (bp (f_X1_rocksIn σ_2 a0 (gi σ_2 b_1 5) x1) (fun r_2 => cko σ_2 a0 [1] (bv (f_X1_tell σ_2 a0 (Int32.toInt64 r_2)) (fun σ_3 => some (v2_1, σ_3))))))))))))))) (fun k => f_X1_safest_24 σ a0 x1 k FU v2 1)))))) else some ((-1), σ))
abbrev P_X1_safest (l : Launch) (d n0 s0 : Nat) : vX → Prop := vMP l yX1_safest cX1_safest 5 (some .int) d n0 s0
theorem w_X1_safest_41 {l : Launch} {d n0 s0 : Nat} (hd : 2 ≤ d) (σ : vMem) (a0 : Nat) (x1 : Int32) (v3 : Int32) (k_1 : Int32 → Option (Int32 × vMem)) (hk_1 : ∀ (v2_3 : Int32), V (P_X1_safest l d n0 s0) (vEmb eI) σ 98 [some (.ref a0), some (.int x1), some (.int v2_3), some (.int v3), none] [] (k_1 v2_3)) : ∀ (n_1 : Nat) (v2_4 : Int32) (v4_1 : Int32), V (P_X1_safest l d n0 s0) (vEmb eI) σ 41 [some (.ref a0), some (.int x1), some (.int v2_4), some (.int v3), some (.int v4_1)] [] (f_X1_safest_41 σ a0 x1 v3 k_1 n_1 v2_4 v4_1) := by
  have hC : vPx (P_X1_safest l d n0 s0) cX1_safest 5 "NobodyBeenAft" (some .int) d := vMP_cx
  intro n_1
  induction n_1 with
  | zero =>
    intro v2_4 v4_1
    exact V_none
  | succ n_1 ih =>
    intro v2_4 v4_1
    refine V_eq (f_X1_safest_41.eq_2 ..) ?_
    refine V_iload hC dX1_safest_41 rfl ?_
    refine V_aload_n hC dX1_safest_43 rfl ?_
    refine g_X1_21 hC dX1_safest_44 (fun b_3 => ?_)
    refine g_X1_280 hC dX1_safest_47 ?_
    refine V_iload_n hC dX1_safest_50 rfl ?_
    refine V_iadd hC dX1_safest_51 ?_
    refine V_icmp_gt (tgt := 98) hC dX1_safest_52 (by decide) ?_ ?_
    · refine V_clr [4] (ls' := [some (.ref a0), some (.int x1), some (.int v2_4), some (.int v3), none]) rfl ?_
      exact hk_1 v2_4
    · refine V_iload hC dX1_safest_55 rfl ?_
      refine V_i2l hC dX1_safest_57 ?_
      refine V_lconst (v := 0) hC dX1_safest_58 rfl ?_
      refine V_ldc2 hC dX1_safest_59 q1016 ?_
      refine V_callS_PI (As := [.long (Int32.toInt64 v4_1), .long 0, .long 8]) (rest := []) (d' := 0) hC dX1_safest_62 3 (lw_S q285 q286 q85 q287) (by decide +kernel) rfl rfl (Nat.le_of_ble_eq_true rfl) (Nat.le_trans (by decide) hd) (by decide) vMP_l (fun _ h => c_X1_in (Nat.le_refl _) h) (fun r_3 => ?_)
      refine V_let (B := fun k_2 => ∀ (v2_5 : Int32), V (P_X1_safest l d n0 s0) (vEmb eI) σ 87 [some (.ref a0), some (.int x1), some (.int v2_5), some (.int v3), some (.int v4_1)] [] (k_2 v2_5)) ?_ ?_
      · intro v2_5
        refine V_iload hC dX1_safest_87 rfl ?_
        refine V_iconst (v := 2) hC dX1_safest_89 rfl ?_
        refine V_iload_n hC dX1_safest_90 rfl ?_
        refine V_imul hC dX1_safest_91 ?_
        refine V_iadd hC dX1_safest_92 ?_
        refine V_istoreL (ls' := fun v4_2 => [some (.ref a0), some (.int x1), some (.int v2_5), some (.int v3), some (.int v4_2)]) hC dX1_safest_93 (by decide) rfl (fun _ => rfl) (fun v4_2 => ?_)
        refine V_goto (tgt := 41) hC dX1_safest_95 (by decide) ?_
        exact ih v2_5 v4_2
      · intro k_2 hk_2
        refine V_if_eq (tgt := 87) hC dX1_safest_65 (by decide) ?_ ?_
        · exact hk_2 v2_4
        · refine V_aload_n hC dX1_safest_68 rfl ?_
          refine V_iload hC dX1_safest_69 rfl ?_
          refine V_iload_n hC dX1_safest_71 rfl ?_
          refine V_cko (fun hm => V_callV_PI (c := 1) (As := [.int v4_1, .int x1]) (rest := []) (d' := 1) hC dX1_safest_72 2 (lw_V q1017 q1019 qs20 q85 q1020) (by decide +kernel) (List.mem_singleton.mp hm) (by decide) (by decide) rfl rfl rfl (Nat.le_of_ble_eq_true rfl) (Nat.le_trans (by decide) hd) (by decide) vMP_l (fun _ h => c_X1_rocksIn (Nat.le_refl _) h) (fun r_4 => ?_))
          refine V_aload_n hC dX1_safest_75 rfl ?_
          refine V_iload_n hC dX1_safest_76 rfl ?_
          refine V_iload_n hC dX1_safest_77 rfl ?_
          refine V_cko (fun hm => V_callV_PI (c := 1) (As := [.int v2_4, .int x1]) (rest := [.int r_4]) (d' := 1) hC dX1_safest_78 2 (lw_V q1017 q1019 qs20 q85 q1020) (by decide +kernel) (List.mem_singleton.mp hm) (by decide) (by decide) rfl rfl rfl (Nat.le_of_ble_eq_true rfl) (Nat.le_trans (by decide) hd) (by decide) vMP_l (fun _ h => c_X1_rocksIn (Nat.le_refl _) h) (fun r_5 => ?_))
          refine V_icmp_ge (tgt := 87) hC dX1_safest_81 (by decide) ?_ ?_
          · exact hk_2 v2_4
          · refine V_iload hC dX1_safest_84 rfl ?_
            refine V_istore_n (ls' := [some (.ref a0), some (.int x1), some (.int v4_1), some (.int v3), some (.int v4_1)]) hC dX1_safest_86 (by decide) rfl rfl ?_
            exact hk_2 v4_1
theorem w_X1_safest_24 {l : Launch} {d n0 s0 : Nat} (hd : 2 ≤ d) (σ : vMem) (a0 : Nat) (x1 : Int32) (k : Int32 → Option (Int32 × vMem)) (hk : ∀ (v2_1 : Int32), V (P_X1_safest l d n0 s0) (vEmb eI) σ 104 [some (.ref a0), some (.int x1), some (.int v2_1), none, none] [] (k v2_1)) : ∀ (n : Nat) (v2_2 : Int32) (v3 : Int32), V (P_X1_safest l d n0 s0) (vEmb eI) σ 24 [some (.ref a0), some (.int x1), some (.int v2_2), some (.int v3), none] [] (f_X1_safest_24 σ a0 x1 k n v2_2 v3) := by
  have hC : vPx (P_X1_safest l d n0 s0) cX1_safest 5 "NobodyBeenAft" (some .int) d := vMP_cx
  intro n
  induction n with
  | zero =>
    intro v2_2 v3
    exact V_none
  | succ n ih =>
    intro v2_2 v3
    refine V_eq (f_X1_safest_24.eq_2 ..) ?_
    refine V_iload_n hC dX1_safest_24 rfl ?_
    refine V_bipush (v := 9) hC dX1_safest_25 rfl ?_
    refine V_icmp_ge (tgt := 104) hC dX1_safest_27 (by decide) ?_ ?_
    · refine V_clr [3] (ls' := [some (.ref a0), some (.int x1), some (.int v2_2), none, none]) rfl ?_
      exact hk v2_2
    · refine V_aload_n hC dX1_safest_30 rfl ?_
      refine g_X1_21 hC dX1_safest_31 (fun b_2 => ?_)
      refine g_X1_280 hC dX1_safest_34 ?_
      refine V_iload_n hC dX1_safest_37 rfl ?_
      refine V_isub hC dX1_safest_38 ?_
      refine V_istoreL (ls' := fun v4 => [some (.ref a0), some (.int x1), some (.int v2_2), some (.int v3), some (.int v4)]) hC dX1_safest_39 (by decide) rfl (fun _ => rfl) (fun v4 => ?_)
      refine V_let (B := fun k_1 => ∀ (v2_3 : Int32), V (P_X1_safest l d n0 s0) (vEmb eI) σ 98 [some (.ref a0), some (.int x1), some (.int v2_3), some (.int v3), none] [] (k_1 v2_3)) ?_ ?_
      · intro v2_3
        refine V_iincL (v := v3 + 1) (ls' := fun v3_1 => [some (.ref a0), some (.int x1), some (.int v2_3), some (.int v3_1), none]) hC dX1_safest_98 rfl (by decide) rfl rfl (fun _ => rfl) (fun v3_1 => ?_)
        refine V_goto (tgt := 24) hC dX1_safest_101 (by decide) ?_
        exact ih v2_3 v3_1
      · intro k_1 hk_1
        exact (w_X1_safest_41 hd σ a0 x1 v3 k_1 hk_1) FU v2_2 v4
theorem w_X1_safest {l : Launch} {d n0 s0 : Nat} (hd : 2 ≤ d) (σ : vMem) (a0 : Nat) (x1 : Int32) : V (P_X1_safest l d n0 s0) (vEmb eI) σ 0 [some (.ref a0), some (.int x1), none, none, none] [] (f_X1_safest σ a0 x1) := by
  have hC : vPx (P_X1_safest l d n0 s0) cX1_safest 5 "NobodyBeenAft" (some .int) d := vMP_cx
  refine V_eq (f_X1_safest.eq_1 ..) ?_
  refine V_iload_n hC dX1_safest_0 rfl ?_
  refine V_i2l hC dX1_safest_1 ?_
  refine V_lconst (v := 1) hC dX1_safest_2 rfl ?_
  refine V_ldc2 hC dX1_safest_3 q1015 ?_
  refine V_callS_PI (As := [.long (Int32.toInt64 x1), .long 1, .long 999]) (rest := []) (d' := 0) hC dX1_safest_6 3 (lw_S q285 q286 q85 q287) (by decide +kernel) rfl rfl (Nat.le_of_ble_eq_true rfl) (Nat.le_trans (by decide) hd) (by decide) vMP_l (fun _ h => c_X1_in (Nat.le_refl _) h) (fun r => ?_)
  refine V_if_ne (tgt := 14) hC dX1_safest_9 (by decide) ?_ ?_
  · refine V_aload_n hC dX1_safest_14 rfl ?_
    refine g_X1_21 hC dX1_safest_15 (fun b => ?_)
    refine g_X1_280 hC dX1_safest_18 ?_
    refine V_istore_nL (ls' := fun v2 => [some (.ref a0), some (.int x1), some (.int v2), none, none]) hC dX1_safest_21 (by decide) rfl (fun _ => rfl) (fun v2 => ?_)
    refine V_iconst (v := 1) hC dX1_safest_22 rfl ?_
    refine V_istore_n (ls' := [some (.ref a0), some (.int x1), some (.int v2), some (.int 1), none]) hC dX1_safest_23 (by decide) rfl rfl ?_
    refine V_let (B := fun k => ∀ (v2_1 : Int32), V (P_X1_safest l d n0 s0) (vEmb eI) σ 104 [some (.ref a0), some (.int x1), some (.int v2_1), none, none] [] (k v2_1)) ?_ ?_
    · intro v2_1
      refine V_aload_n hC dX1_safest_104 rfl ?_
      refine V_iconst (v := 0) hC dX1_safest_105 rfl ?_
      refine p_X1_84 hC dX1_safest_106 (fun σ_1 => ?_)
      refine V_aload_n hC dX1_safest_109 rfl ?_
      refine V_aload_n hC dX1_safest_110 rfl ?_
      refine V_iload_n hC dX1_safest_111 rfl ?_
      refine V_iload_n hC dX1_safest_112 rfl ?_
      refine V_cko (fun hm => V_callV_PI (c := 1) (As := [.int v2_1, .int x1]) (rest := [.ref a0]) (d' := 1) hC dX1_safest_113 2 (lw_V q1017 q1019 qs20 q85 q1020) (by decide +kernel) (List.mem_singleton.mp hm) (by decide) (by decide) rfl rfl rfl (Nat.le_of_ble_eq_true rfl) (Nat.le_trans (by decide) hd) (by decide) vMP_l (fun _ h => c_X1_rocksIn (Nat.le_refl _) h) (fun r_1 => ?_))
      refine V_i2l hC dX1_safest_116 ?_
      refine V_cko (fun hm => V_callV_V (c := 1) (As := [.long (Int32.toInt64 r_1)]) (rest := []) (d' := 0) hC dX1_safest_117 1 (lw_V q768 q770 qs17 q85 q771) (by decide +kernel) (List.mem_singleton.mp hm) (by decide) (by decide) rfl rfl rfl (Nat.le_of_ble_eq_true rfl) (Nat.le_trans (by decide) hd) (by decide) vMP_l (fun _ h => c_X1_tell (Nat.le_refl _) h) (fun σ_2 => ?_))
      refine V_aload_n hC dX1_safest_120 rfl ?_
      refine V_aload_n hC dX1_safest_121 rfl ?_
      refine V_aload_n hC dX1_safest_122 rfl ?_
      refine g_X1_21 hC dX1_safest_123 (fun b_1 => ?_)
      refine g_X1_280 hC dX1_safest_126 ?_
      refine V_iload_n hC dX1_safest_129 rfl ?_
      refine V_cko (fun hm => V_callV_PI (c := 1) (As := [.int (gi σ_2 b_1 5), .int x1]) (rest := [.ref a0]) (d' := 1) hC dX1_safest_130 2 (lw_V q1017 q1019 qs20 q85 q1020) (by decide +kernel) (List.mem_singleton.mp hm) (by decide) (by decide) rfl rfl rfl (Nat.le_of_ble_eq_true rfl) (Nat.le_trans (by decide) hd) (by decide) vMP_l (fun _ h => c_X1_rocksIn (Nat.le_refl _) h) (fun r_2 => ?_))
      refine V_i2l hC dX1_safest_133 ?_
      refine V_cko (fun hm => V_callV_V (c := 1) (As := [.long (Int32.toInt64 r_2)]) (rest := []) (d' := 0) hC dX1_safest_134 1 (lw_V q768 q770 qs17 q85 q771) (by decide +kernel) (List.mem_singleton.mp hm) (by decide) (by decide) rfl rfl rfl (Nat.le_of_ble_eq_true rfl) (Nat.le_trans (by decide) hd) (by decide) vMP_l (fun _ h => c_X1_tell (Nat.le_refl _) h) (fun σ_3 => ?_))
      refine V_iload_n hC dX1_safest_137 rfl ?_
      exact V_ireturn dX1_safest_138 rfl rfl
    · intro k hk
      exact (w_X1_safest_24 hd σ a0 x1 k hk) FU v2 1
  · refine V_iconst (v := (-1)) hC dX1_safest_12 rfl ?_
    exact V_ireturn dX1_safest_13 rfl rfl
theorem c_X1_safest {l : Launch} {d : Nat} (hd : 2 ≤ d) {σ : vMem} {a0 : Nat} {x1 : Int32} {r : Int32 × vMem} (h : f_X1_safest σ a0 x1 = some r) : vOk l yX1_safest cX1_safest 5 (some .int) d [.ref a0, .int x1] σ (.inl ((eI).1 r, (eI).2 r)) := V_method (em := eI) [some (.ref a0), some (.int x1), none, none, none] (by decide +kernel) rfl (Nat.le_of_ble_eq_true rfl) (w_X1_safest hd σ a0 x1) h
/-! NobodyBeenAft.late(I)I -/
def f_X1_late_84 (a0 : Nat) (x1 : Int32) (v2 : Int32) : Nat → vMem → Int32 → Option (Int32 × vMem)
  | 0, _, _ => none
  | n + 1, σ_3, v4_1 => if x1 ≤ v4_1 then (some (v2, σ_3)) else cko σ_3 a0 [1] (dr (gr σ_3 a0 0) (fun b => cko σ_3 b [2] (cko σ_3 a0 [1] (bd (f_X1_delayAt σ_3 a0 ((gi σ_3 b 4) + v4_1)) (fun r_1 σ_4 => cko σ_4 a0 [1] (bv (f_X1_tell σ_4 a0 (Int32.toInt64 (v4_1 + r_1))) (fun σ_5 => vl (v4_1 + 1) (fun v4_2 => f_X1_late_84 a0 x1 v2 n σ_5 v4_2))))))))
def f_X1_late_25 (a0 : Nat) (x1 : Int32) (k : vMem → Int32 → Option (Int32 × vMem)) : Nat → vMem → Int32 → Int32 → Int32 → Option (Int32 × vMem)
  | 0, _, _, _, _ => none
  | n_1 + 1, σ_6, v2_1, v3, v4_3 => if v4_3 < 0 then (k σ_6 v2_1) else cko σ_6 a0 [1] (dr (gr σ_6 a0 0) (fun b_1 => cko σ_6 b_1 [2] (cko σ_6 a0 [1] (bd (f_X1_delayAt σ_6 a0 ((gi σ_6 b_1 4) + v4_3)) (fun r_2 σ_7 => vl (v4_3 + r_2) (fun v5 => vl (fun (y : Int32) => vl (v2_1 + y) (fun v2_2 => vl (imin v3 v5) (fun v3_1 => vl (v4_3 + (-1)) (fun v4_4 => f_X1_late_25 a0 x1 k n_1 σ_7 v2_2 v3_1 v4_4)))) (fun k_1 => if v5 ≤ v3 then (k_1 0) else k_1 1)))))))
def f_X1_late (σ : vMem) (a0 : Nat) (x1 : Int32) : Option (Int32 × vMem) := bp (f_X1_in σ (Int32.toInt64 x1) 1 30) (fun r => if ¬ r = 0 then (vl (x1 - 1) (fun v4 => vl (fun (σ_1 : vMem) (v2 : Int32) => cko σ_1 a0 [1] (vl (si σ_1 a0 18 0) (fun σ_2 => f_X1_late_84 a0 x1 v2 FU σ_2 0))) (fun k => f_X1_late_25 a0 x1 k FU σ 0 100000000 v4))) else some ((-1), σ))
abbrev P_X1_late (l : Launch) (d n0 s0 : Nat) : vX → Prop := vMP l yX1_late cX1_late 6 (some .int) d n0 s0
theorem w_X1_late_84 {l : Launch} {d n0 s0 : Nat} (hd : 610 ≤ d) (h0 : l.stackTraces = false) (a0 : Nat) (x1 : Int32) (v2 : Int32)  : ∀ (n : Nat) (σ_3 : vMem) (v4_1 : Int32), V (P_X1_late l d n0 s0) (vEmb eI) σ_3 84 [some (.ref a0), some (.int x1), some (.int v2), none, some (.int v4_1), none] [] (f_X1_late_84 a0 x1 v2 n σ_3 v4_1) := by
  have hC : vPx (P_X1_late l d n0 s0) cX1_late 6 "NobodyBeenAft" (some .int) d := vMP_cx
  intro n
  induction n with
  | zero =>
    intro σ_3 v4_1
    exact V_none
  | succ n ih =>
    intro σ_3 v4_1
    refine V_eq (f_X1_late_84.eq_2 ..) ?_
    refine V_iload hC dX1_late_84 rfl ?_
    refine V_iload_n hC dX1_late_86 rfl ?_
    refine V_icmp_ge (tgt := 118) hC dX1_late_87 (by decide) ?_ ?_
    · refine V_iload_n hC dX1_late_118 rfl ?_
      exact V_ireturn dX1_late_119 rfl rfl
    · refine V_aload_n hC dX1_late_90 rfl ?_
      refine V_iload hC dX1_late_91 rfl ?_
      refine V_aload_n hC dX1_late_93 rfl ?_
      refine V_aload_n hC dX1_late_94 rfl ?_
      refine g_X1_21 hC dX1_late_95 (fun b => ?_)
      refine g_X1_215 hC dX1_late_98 ?_
      refine V_iload hC dX1_late_101 rfl ?_
      refine V_iadd hC dX1_late_103 ?_
      refine V_cko (fun hm => V_callV_I (c := 1) (As := [.int ((gi σ_3 b 4) + v4_1)]) (rest := [.int v4_1, .ref a0]) (d' := 609) hC dX1_late_104 1 (lw_V q684 q686 qs7 q85 q687) (by decide +kernel) (List.mem_singleton.mp hm) (by decide) (by decide) rfl rfl rfl (Nat.le_of_ble_eq_true rfl) (Nat.le_trans (by decide) hd) (by decide) vMP_l (fun _ h => c_X1_delayAt (Nat.le_refl _) h0 h) (fun r_1 σ_4 => ?_))
      refine V_iadd hC dX1_late_107 ?_
      refine V_i2l hC dX1_late_108 ?_
      refine V_cko (fun hm => V_callV_V (c := 1) (As := [.long (Int32.toInt64 (v4_1 + r_1))]) (rest := []) (d' := 0) hC dX1_late_109 1 (lw_V q768 q770 qs17 q85 q771) (by decide +kernel) (List.mem_singleton.mp hm) (by decide) (by decide) rfl rfl rfl (Nat.le_of_ble_eq_true rfl) (Nat.le_trans (by decide) hd) (by decide) vMP_l (fun _ h => c_X1_tell (Nat.le_refl _) h) (fun σ_5 => ?_))
      refine V_iincL (v := v4_1 + 1) (ls' := fun v4_2 => [some (.ref a0), some (.int x1), some (.int v2), none, some (.int v4_2), none]) hC dX1_late_112 rfl (by decide) rfl rfl (fun _ => rfl) (fun v4_2 => ?_)
      refine V_goto (tgt := 84) hC dX1_late_115 (by decide) ?_
      exact ih σ_5 v4_2
theorem w_X1_late_25 {l : Launch} {d n0 s0 : Nat} (hd : 610 ≤ d) (h0 : l.stackTraces = false) (a0 : Nat) (x1 : Int32) (k : vMem → Int32 → Option (Int32 × vMem)) (hk : ∀ (σ_1 : vMem), ∀ (v2 : Int32), V (P_X1_late l d n0 s0) (vEmb eI) σ_1 76 [some (.ref a0), some (.int x1), some (.int v2), none, none, none] [] (k σ_1 v2)) : ∀ (n_1 : Nat) (σ_6 : vMem) (v2_1 : Int32) (v3 : Int32) (v4_3 : Int32), V (P_X1_late l d n0 s0) (vEmb eI) σ_6 25 [some (.ref a0), some (.int x1), some (.int v2_1), some (.int v3), some (.int v4_3), none] [] (f_X1_late_25 a0 x1 k n_1 σ_6 v2_1 v3 v4_3) := by
  have hC : vPx (P_X1_late l d n0 s0) cX1_late 6 "NobodyBeenAft" (some .int) d := vMP_cx
  intro n_1
  induction n_1 with
  | zero =>
    intro σ_6 v2_1 v3 v4_3
    exact V_none
  | succ n_1 ih =>
    intro σ_6 v2_1 v3 v4_3
    refine V_eq (f_X1_late_25.eq_2 ..) ?_
    refine V_iload hC dX1_late_25 rfl ?_
    refine V_if_lt (tgt := 76) hC dX1_late_27 (by decide) ?_ ?_
    · refine V_clr [3, 4] (ls' := [some (.ref a0), some (.int x1), some (.int v2_1), none, none, none]) rfl ?_
      exact hk σ_6 v2_1
    · refine V_iload hC dX1_late_30 rfl ?_
      refine V_aload_n hC dX1_late_32 rfl ?_
      refine V_aload_n hC dX1_late_33 rfl ?_
      refine g_X1_21 hC dX1_late_34 (fun b_1 => ?_)
      refine g_X1_215 hC dX1_late_37 ?_
      refine V_iload hC dX1_late_40 rfl ?_
      refine V_iadd hC dX1_late_42 ?_
      refine V_cko (fun hm => V_callV_I (c := 1) (As := [.int ((gi σ_6 b_1 4) + v4_3)]) (rest := [.int v4_3]) (d' := 609) hC dX1_late_43 1 (lw_V q684 q686 qs7 q85 q687) (by decide +kernel) (List.mem_singleton.mp hm) (by decide) (by decide) rfl rfl rfl (Nat.le_of_ble_eq_true rfl) (Nat.le_trans (by decide) hd) (by decide) vMP_l (fun _ h => c_X1_delayAt (Nat.le_refl _) h0 h) (fun r_2 σ_7 => ?_))
      refine V_iadd hC dX1_late_46 ?_
      refine V_istoreL (ls' := fun v5 => [some (.ref a0), some (.int x1), some (.int v2_1), some (.int v3), some (.int v4_3), some (.int v5)]) hC dX1_late_47 (by decide) rfl (fun _ => rfl) (fun v5 => ?_)
      refine V_iload_n hC dX1_late_49 rfl ?_
      refine V_iload hC dX1_late_50 rfl ?_
      refine V_iload_n hC dX1_late_52 rfl ?_
      refine V_let (B := fun k_1 => ∀ (y : Int32), V (P_X1_late l d n0 s0) (vEmb eI) σ_7 61 [some (.ref a0), some (.int x1), none, some (.int v3), some (.int v4_3), some (.int v5)] [.int y, .int v2_1] (k_1 y)) ?_ ?_
      · intro y
        refine V_iadd hC dX1_late_61 ?_
        refine V_istore_nL (ls' := fun v2_2 => [some (.ref a0), some (.int x1), some (.int v2_2), some (.int v3), some (.int v4_3), some (.int v5)]) hC dX1_late_62 (by decide) rfl (fun _ => rfl) (fun v2_2 => ?_)
        refine V_iload_n hC dX1_late_63 rfl ?_
        refine V_iload hC dX1_late_64 rfl ?_
        refine V_mmin hC dX1_late_66 q675 q327 q90 q328 (Nat.le_of_ble_eq_true rfl) ?_
        refine V_istore_nL (ls' := fun v3_1 => [some (.ref a0), some (.int x1), some (.int v2_2), some (.int v3_1), some (.int v4_3), some (.int v5)]) hC dX1_late_69 (by decide) rfl (fun _ => rfl) (fun v3_1 => ?_)
        refine V_iincL (v := v4_3 + (-1)) (ls' := fun v4_4 => [some (.ref a0), some (.int x1), some (.int v2_2), some (.int v3_1), some (.int v4_4), some (.int v5)]) hC dX1_late_70 rfl (by decide) rfl rfl (fun _ => rfl) (fun v4_4 => ?_)
        refine V_goto (tgt := 25) hC dX1_late_73 (by decide) ?_
        refine V_clr [5] (ls' := [some (.ref a0), some (.int x1), some (.int v2_2), some (.int v3_1), some (.int v4_4), none]) rfl ?_
        exact ih σ_7 v2_2 v3_1 v4_4
      · intro k_1 hk_1
        refine V_icmp_le (tgt := 60) hC dX1_late_53 (by decide) ?_ ?_
        · refine V_iconst (v := 0) hC dX1_late_60 rfl ?_
          refine V_clr [2] (ls' := [some (.ref a0), some (.int x1), none, some (.int v3), some (.int v4_3), some (.int v5)]) rfl ?_
          exact hk_1 0
        · refine V_iconst (v := 1) hC dX1_late_56 rfl ?_
          refine V_goto (tgt := 61) hC dX1_late_57 (by decide) ?_
          refine V_clr [2] (ls' := [some (.ref a0), some (.int x1), none, some (.int v3), some (.int v4_3), some (.int v5)]) rfl ?_
          exact hk_1 1
theorem w_X1_late {l : Launch} {d n0 s0 : Nat} (hd : 610 ≤ d) (h0 : l.stackTraces = false) (σ : vMem) (a0 : Nat) (x1 : Int32) : V (P_X1_late l d n0 s0) (vEmb eI) σ 0 [some (.ref a0), some (.int x1), none, none, none, none] [] (f_X1_late σ a0 x1) := by
  have hC : vPx (P_X1_late l d n0 s0) cX1_late 6 "NobodyBeenAft" (some .int) d := vMP_cx
  refine V_eq (f_X1_late.eq_1 ..) ?_
  refine V_iload_n hC dX1_late_0 rfl ?_
  refine V_i2l hC dX1_late_1 ?_
  refine V_lconst (v := 1) hC dX1_late_2 rfl ?_
  refine V_ldc2 hC dX1_late_3 q939 ?_
  refine V_callS_PI (As := [.long (Int32.toInt64 x1), .long 1, .long 30]) (rest := []) (d' := 0) hC dX1_late_6 3 (lw_S q285 q286 q85 q287) (by decide +kernel) rfl rfl (Nat.le_of_ble_eq_true rfl) (Nat.le_trans (by decide) hd) (by decide) vMP_l (fun _ h => c_X1_in (Nat.le_refl _) h) (fun r => ?_)
  refine V_if_ne (tgt := 14) hC dX1_late_9 (by decide) ?_ ?_
  · refine V_iconst (v := 0) hC dX1_late_14 rfl ?_
    refine V_istore_n (ls' := [some (.ref a0), some (.int x1), some (.int 0), none, none, none]) hC dX1_late_15 (by decide) rfl rfl ?_
    refine V_ldcw hC dX1_late_16 q972 ?_
    refine V_istore_n (ls' := [some (.ref a0), some (.int x1), some (.int 0), some (.int 100000000), none, none]) hC dX1_late_19 (by decide) rfl rfl ?_
    refine V_iload_n hC dX1_late_20 rfl ?_
    refine V_iconst (v := 1) hC dX1_late_21 rfl ?_
    refine V_isub hC dX1_late_22 ?_
    refine V_istoreL (ls' := fun v4 => [some (.ref a0), some (.int x1), some (.int 0), some (.int 100000000), some (.int v4), none]) hC dX1_late_23 (by decide) rfl (fun _ => rfl) (fun v4 => ?_)
    refine V_let (B := fun k => ∀ (σ_1 : vMem), ∀ (v2 : Int32), V (P_X1_late l d n0 s0) (vEmb eI) σ_1 76 [some (.ref a0), some (.int x1), some (.int v2), none, none, none] [] (k σ_1 v2)) ?_ ?_
    · intro σ_1 v2
      refine V_aload_n hC dX1_late_76 rfl ?_
      refine V_iconst (v := 0) hC dX1_late_77 rfl ?_
      refine p_X1_84 hC dX1_late_78 (fun σ_2 => ?_)
      refine V_iconst (v := 0) hC dX1_late_81 rfl ?_
      refine V_istore (ls' := [some (.ref a0), some (.int x1), some (.int v2), none, some (.int 0), none]) hC dX1_late_82 (by decide) rfl rfl ?_
      exact (w_X1_late_84 hd h0 a0 x1 v2) FU σ_2 0
    · intro k hk
      exact (w_X1_late_25 hd h0 a0 x1 k hk) FU σ 0 100000000 v4
  · refine V_iconst (v := (-1)) hC dX1_late_12 rfl ?_
    exact V_ireturn dX1_late_13 rfl rfl
theorem c_X1_late {l : Launch} {d : Nat} (hd : 610 ≤ d) (h0 : l.stackTraces = false) {σ : vMem} {a0 : Nat} {x1 : Int32} {r : Int32 × vMem} (h : f_X1_late σ a0 x1 = some r) : vOk l yX1_late cX1_late 6 (some .int) d [.ref a0, .int x1] σ (.inl ((eI).1 r, (eI).2 r)) := V_method (em := eI) [some (.ref a0), some (.int x1), none, none, none, none] (by decide +kernel) rfl (Nat.le_of_ble_eq_true rfl) (w_X1_late hd h0 σ a0 x1) h
/-! NobodyBeenAft.comes(I)I -/
def f_X1_comes_45 (a0 : Nat) (σ_1 : vMem) (v2 : Int32) (k : Int32 → Int32 → Option (Int32 × vMem)) : Nat → Int32 → Int32 → Int32 → Option (Int32 × vMem)
  | 0, _, _, _ => none
  | n + 1, v3_1, v4_1, v5 => cko σ_1 a0 [1] (if (gi σ_1 a0 9) ≤ v5 then (k v3_1 v4_1) else cko σ_1 a0 [1] (dr (gr σ_1 a0 4) (fun b => cka σ_1 b 105 v5 (vl (fun (v3_2 : Int32) (v4_2 : Int32) => vl (v5 + 1) (fun v5_1 => f_X1_comes_45 a0 σ_1 v2 k n v3_2 v4_2 v5_1)) (fun k_1 => if (gi σ_1 b (Int32.toNatClampNeg v5)) ≤ v2 then (vl (v3_1 + 1) (fun v3_3 => cko σ_1 a0 [1] (bp (f_X1_has σ_1 (gi σ_1 a0 10) v5) (fun r_2 => vl (fun (y : Int32) => vl (v4_1 + y) (fun v4_3 => k_1 v3_3 v4_3)) (fun k_2 => if r_2 = 0 then (k_2 0) else k_2 1))))) else k_1 v3_1 v4_1)))))
def f_X1_comes (σ : vMem) (a0 : Nat) (x1 : Int32) : Option (Int32 × vMem) := bp (f_X1_in σ (Int32.toInt64 x1) 0 12) (fun r => if ¬ r = 0 then (cko σ a0 [1] (cko σ a0 [1] (cko σ a0 [1] (bd (f_X1_delay σ a0) (fun r_1 σ_1 => ck (¬ r_1 = 0) (vl (imin ((gi σ a0 8) - 1) ((((gi σ a0 8) - 1) * x1) / r_1)) (fun v2 => vl (fun (v3 : Int32) (v4 : Int32) => cko σ_1 a0 [1] (vl (si σ_1 a0 18 0) (fun σ_2 => cko σ_2 a0 [1] (bv (f_X1_tell σ_2 a0 (Int32.toInt64 v3)) (fun σ_3 => cko σ_3 a0 [1] (bv (f_X1_tell σ_3 a0 (Int32.toInt64 (v4 - (v4 / 2) * 2))) (fun σ_4 => some (v2, σ_4)))))))) (fun k => f_X1_comes_45 a0 σ_1 v2 k FU 0 0 0)))))))) else some ((-1), σ))
abbrev P_X1_comes (l : Launch) (d n0 s0 : Nat) : vX → Prop := vMP l yX1_comes cX1_comes 6 (some .int) d n0 s0
theorem w_X1_comes_45 {l : Launch} {d n0 s0 : Nat} (hd : 611 ≤ d) (h0 : l.stackTraces = false) (a0 : Nat) (σ_1 : vMem) (v2 : Int32) (k : Int32 → Int32 → Option (Int32 × vMem)) (hk : ∀ (v3 : Int32), ∀ (v4 : Int32), V (P_X1_comes l d n0 s0) (vEmb eI) σ_1 99 [some (.ref a0), none, some (.int v2), some (.int v3), some (.int v4), none] [] (k v3 v4)) : ∀ (n : Nat) (v3_1 : Int32) (v4_1 : Int32) (v5 : Int32), V (P_X1_comes l d n0 s0) (vEmb eI) σ_1 45 [some (.ref a0), none, some (.int v2), some (.int v3_1), some (.int v4_1), some (.int v5)] [] (f_X1_comes_45 a0 σ_1 v2 k n v3_1 v4_1 v5) := by
  have hC : vPx (P_X1_comes l d n0 s0) cX1_comes 6 "NobodyBeenAft" (some .int) d := vMP_cx
  intro n
  induction n with
  | zero =>
    intro v3_1 v4_1 v5
    exact V_none
  | succ n ih =>
    intro v3_1 v4_1 v5
    refine V_eq (f_X1_comes_45.eq_2 ..) ?_
    refine V_iload hC dX1_comes_45 rfl ?_
    refine V_aload_n hC dX1_comes_47 rfl ?_
    refine g_X1_122 hC dX1_comes_48 ?_
    refine V_icmp_ge (tgt := 99) hC dX1_comes_51 (by decide) ?_ ?_
    · refine V_clr [5] (ls' := [some (.ref a0), none, some (.int v2), some (.int v3_1), some (.int v4_1), none]) rfl ?_
      exact hk v3_1 v4_1
    · refine V_aload_n hC dX1_comes_54 rfl ?_
      refine g_X1_35 hC dX1_comes_55 (fun b => ?_)
      refine V_iload hC dX1_comes_58 rfl ?_
      refine V_iald hC dX1_comes_60 ?_
      refine V_iload_n hC dX1_comes_61 rfl ?_
      refine V_let (B := fun k_1 => ∀ (v3_2 : Int32), ∀ (v4_2 : Int32), V (P_X1_comes l d n0 s0) (vEmb eI) σ_1 93 [some (.ref a0), none, some (.int v2), some (.int v3_2), some (.int v4_2), some (.int v5)] [] (k_1 v3_2 v4_2)) ?_ ?_
      · intro v3_2 v4_2
        refine V_iincL (v := v5 + 1) (ls' := fun v5_1 => [some (.ref a0), none, some (.int v2), some (.int v3_2), some (.int v4_2), some (.int v5_1)]) hC dX1_comes_93 rfl (by decide) rfl rfl (fun _ => rfl) (fun v5_1 => ?_)
        refine V_goto (tgt := 45) hC dX1_comes_96 (by decide) ?_
        exact ih v3_2 v4_2 v5_1
      · intro k_1 hk_1
        refine V_icmp_le (tgt := 68) hC dX1_comes_62 (by decide) ?_ ?_
        · refine V_iincL (v := v3_1 + 1) (ls' := fun v3_3 => [some (.ref a0), none, some (.int v2), some (.int v3_3), some (.int v4_1), some (.int v5)]) hC dX1_comes_68 rfl (by decide) rfl rfl (fun _ => rfl) (fun v3_3 => ?_)
          refine V_iload hC dX1_comes_71 rfl ?_
          refine V_aload_n hC dX1_comes_73 rfl ?_
          refine g_X1_128 hC dX1_comes_74 ?_
          refine V_iload hC dX1_comes_77 rfl ?_
          refine V_callS_PI (As := [.int (gi σ_1 a0 10), .int v5]) (rest := [.int v4_1]) (d' := 0) hC dX1_comes_79 2 (lw_S q974 q893 q85 q894) (by decide +kernel) rfl rfl (Nat.le_of_ble_eq_true rfl) (Nat.le_trans (by decide) hd) (by decide) vMP_l (fun _ h => c_X1_has (Nat.le_refl _) h) (fun r_2 => ?_)
          refine V_let (B := fun k_2 => ∀ (y : Int32), V (P_X1_comes l d n0 s0) (vEmb eI) σ_1 90 [some (.ref a0), none, some (.int v2), some (.int v3_3), none, some (.int v5)] [.int y, .int v4_1] (k_2 y)) ?_ ?_
          · intro y
            refine V_iadd hC dX1_comes_90 ?_
            refine V_istoreL (ls' := fun v4_3 => [some (.ref a0), none, some (.int v2), some (.int v3_3), some (.int v4_3), some (.int v5)]) hC dX1_comes_91 (by decide) rfl (fun _ => rfl) (fun v4_3 => ?_)
            exact hk_1 v3_3 v4_3
          · intro k_2 hk_2
            refine V_if_eq (tgt := 89) hC dX1_comes_82 (by decide) ?_ ?_
            · refine V_iconst (v := 0) hC dX1_comes_89 rfl ?_
              refine V_clr [4] (ls' := [some (.ref a0), none, some (.int v2), some (.int v3_3), none, some (.int v5)]) rfl ?_
              exact hk_2 0
            · refine V_iconst (v := 1) hC dX1_comes_85 rfl ?_
              refine V_goto (tgt := 90) hC dX1_comes_86 (by decide) ?_
              refine V_clr [4] (ls' := [some (.ref a0), none, some (.int v2), some (.int v3_3), none, some (.int v5)]) rfl ?_
              exact hk_2 1
        · refine V_goto (tgt := 93) hC dX1_comes_65 (by decide) ?_
          exact hk_1 v3_1 v4_1
theorem w_X1_comes {l : Launch} {d n0 s0 : Nat} (hd : 611 ≤ d) (h0 : l.stackTraces = false) (σ : vMem) (a0 : Nat) (x1 : Int32) : V (P_X1_comes l d n0 s0) (vEmb eI) σ 0 [some (.ref a0), some (.int x1), none, none, none, none] [] (f_X1_comes σ a0 x1) := by
  have hC : vPx (P_X1_comes l d n0 s0) cX1_comes 6 "NobodyBeenAft" (some .int) d := vMP_cx
  refine V_eq (f_X1_comes.eq_1 ..) ?_
  refine V_iload_n hC dX1_comes_0 rfl ?_
  refine V_i2l hC dX1_comes_1 ?_
  refine V_lconst (v := 0) hC dX1_comes_2 rfl ?_
  refine V_ldc2 hC dX1_comes_3 q1029 ?_
  refine V_callS_PI (As := [.long (Int32.toInt64 x1), .long 0, .long 12]) (rest := []) (d' := 0) hC dX1_comes_6 3 (lw_S q285 q286 q85 q287) (by decide +kernel) rfl rfl (Nat.le_of_ble_eq_true rfl) (Nat.le_trans (by decide) hd) (by decide) vMP_l (fun _ h => c_X1_in (Nat.le_refl _) h) (fun r => ?_)
  refine V_if_ne (tgt := 14) hC dX1_comes_9 (by decide) ?_ ?_
  · refine V_aload_n hC dX1_comes_14 rfl ?_
    refine g_X1_48 hC dX1_comes_15 ?_
    refine V_iconst (v := 1) hC dX1_comes_18 rfl ?_
    refine V_isub hC dX1_comes_19 ?_
    refine V_aload_n hC dX1_comes_20 rfl ?_
    refine g_X1_48 hC dX1_comes_21 ?_
    refine V_iconst (v := 1) hC dX1_comes_24 rfl ?_
    refine V_isub hC dX1_comes_25 ?_
    refine V_iload_n hC dX1_comes_26 rfl ?_
    refine V_imul hC dX1_comes_27 ?_
    refine V_aload_n hC dX1_comes_28 rfl ?_
    refine V_cko (fun hm => V_callV_I (c := 1) (As := []) (rest := [.int (((gi σ a0 8) - 1) * x1), .int ((gi σ a0 8) - 1)]) (d' := 610) hC dX1_comes_29 0 (lw_V q1030 q681 q682 q85 q683) (by decide +kernel) (List.mem_singleton.mp hm) (by decide) (by decide) rfl rfl rfl (Nat.le_of_ble_eq_true rfl) (Nat.le_trans (by decide) hd) (by decide) vMP_l (fun _ h => c_X1_delay (Nat.le_refl _) h0 h) (fun r_1 σ_1 => ?_))
    refine V_ck (fun h9 => V_idiv hC dX1_comes_32 h9 ?_)
    refine V_mmin hC dX1_comes_33 q675 q327 q90 q328 (Nat.le_of_ble_eq_true rfl) ?_
    refine V_istore_nL (ls' := fun v2 => [some (.ref a0), some (.int x1), some (.int v2), none, none, none]) hC dX1_comes_36 (by decide) rfl (fun _ => rfl) (fun v2 => ?_)
    refine V_iconst (v := 0) hC dX1_comes_37 rfl ?_
    refine V_istore_n (ls' := [some (.ref a0), some (.int x1), some (.int v2), some (.int 0), none, none]) hC dX1_comes_38 (by decide) rfl rfl ?_
    refine V_iconst (v := 0) hC dX1_comes_39 rfl ?_
    refine V_istore (ls' := [some (.ref a0), some (.int x1), some (.int v2), some (.int 0), some (.int 0), none]) hC dX1_comes_40 (by decide) rfl rfl ?_
    refine V_iconst (v := 0) hC dX1_comes_42 rfl ?_
    refine V_istore (ls' := [some (.ref a0), some (.int x1), some (.int v2), some (.int 0), some (.int 0), some (.int 0)]) hC dX1_comes_43 (by decide) rfl rfl ?_
    refine V_let (B := fun k => ∀ (v3 : Int32), ∀ (v4 : Int32), V (P_X1_comes l d n0 s0) (vEmb eI) σ_1 99 [some (.ref a0), none, some (.int v2), some (.int v3), some (.int v4), none] [] (k v3 v4)) ?_ ?_
    · intro v3 v4
      refine V_aload_n hC dX1_comes_99 rfl ?_
      refine V_iconst (v := 0) hC dX1_comes_100 rfl ?_
      refine p_X1_84 hC dX1_comes_101 (fun σ_2 => ?_)
      refine V_aload_n hC dX1_comes_104 rfl ?_
      refine V_iload_n hC dX1_comes_105 rfl ?_
      refine V_i2l hC dX1_comes_106 ?_
      refine V_cko (fun hm => V_callV_V (c := 1) (As := [.long (Int32.toInt64 v3)]) (rest := []) (d' := 0) hC dX1_comes_107 1 (lw_V q768 q770 qs17 q85 q771) (by decide +kernel) (List.mem_singleton.mp hm) (by decide) (by decide) rfl rfl rfl (Nat.le_of_ble_eq_true rfl) (Nat.le_trans (by decide) hd) (by decide) vMP_l (fun _ h => c_X1_tell (Nat.le_refl _) h) (fun σ_3 => ?_))
      refine V_aload_n hC dX1_comes_110 rfl ?_
      refine V_iload hC dX1_comes_111 rfl ?_
      refine V_iconst (v := 2) hC dX1_comes_113 rfl ?_
      refine V_irem hC dX1_comes_114 (by decide) ?_
      refine V_i2l hC dX1_comes_115 ?_
      refine V_cko (fun hm => V_callV_V (c := 1) (As := [.long (Int32.toInt64 (v4 - (v4 / 2) * 2))]) (rest := []) (d' := 0) hC dX1_comes_116 1 (lw_V q768 q770 qs17 q85 q771) (by decide +kernel) (List.mem_singleton.mp hm) (by decide) (by decide) rfl rfl rfl (Nat.le_of_ble_eq_true rfl) (Nat.le_trans (by decide) hd) (by decide) vMP_l (fun _ h => c_X1_tell (Nat.le_refl _) h) (fun σ_4 => ?_))
      refine V_iload_n hC dX1_comes_119 rfl ?_
      exact V_ireturn dX1_comes_120 rfl rfl
    · intro k hk
      refine V_clr [1] (ls' := [some (.ref a0), none, some (.int v2), some (.int 0), some (.int 0), some (.int 0)]) rfl ?_
      exact (w_X1_comes_45 hd h0 a0 σ_1 v2 k hk) FU 0 0 0
  · refine V_iconst (v := (-1)) hC dX1_comes_12 rfl ?_
    exact V_ireturn dX1_comes_13 rfl rfl
theorem c_X1_comes {l : Launch} {d : Nat} (hd : 611 ≤ d) (h0 : l.stackTraces = false) {σ : vMem} {a0 : Nat} {x1 : Int32} {r : Int32 × vMem} (h : f_X1_comes σ a0 x1 = some r) : vOk l yX1_comes cX1_comes 6 (some .int) d [.ref a0, .int x1] σ (.inl ((eI).1 r, (eI).2 r)) := V_method (em := eI) [some (.ref a0), some (.int x1), none, none, none, none] (by decide +kernel) rfl (Nat.le_of_ble_eq_true rfl) (w_X1_comes hd h0 σ a0 x1) h
/-! NobodyBeenAft.parts(II)I -/
def f_X1_parts (σ : vMem) (x0 : Int32) (x1 : Int32) : Option (Int32) := ck (¬ x1 = 0) (some (((x0 + x1) - 1) / x1))
abbrev P_X1_parts (l : Launch) (d n0 s0 : Nat) : vX → Prop := vMP l yX1_parts cX1_parts 2 (some .int) d n0 s0
theorem w_X1_parts {l : Launch} {d n0 s0 : Nat} (hd : 0 ≤ d) (σ : vMem) (x0 : Int32) (x1 : Int32) : V (P_X1_parts l d n0 s0) (vEmb (ePI σ)) σ 0 [some (.int x0), some (.int x1)] [] (f_X1_parts σ x0 x1) := by
  have hC : vPx (P_X1_parts l d n0 s0) cX1_parts 2 "NobodyBeenAft" (some .int) d := vMP_cx
  refine V_eq (f_X1_parts.eq_1 ..) ?_
  refine V_iload_n hC dX1_parts_0 rfl ?_
  refine V_iload_n hC dX1_parts_1 rfl ?_
  refine V_iadd hC dX1_parts_2 ?_
  refine V_iconst (v := 1) hC dX1_parts_3 rfl ?_
  refine V_isub hC dX1_parts_4 ?_
  refine V_iload_n hC dX1_parts_5 rfl ?_
  refine V_ck (fun h9 => V_idiv hC dX1_parts_6 h9 ?_)
  exact V_ireturn dX1_parts_7 rfl rfl
theorem c_X1_parts {l : Launch} {d : Nat} (hd : 0 ≤ d) {σ : vMem} {x0 : Int32} {x1 : Int32} {r : Int32} (h : f_X1_parts σ x0 x1 = some r) : vOk l yX1_parts cX1_parts 2 (some .int) d [.int x0, .int x1] σ (.inl (((ePI σ)).1 r, ((ePI σ)).2 r)) := V_method (em := (ePI σ)) [some (.int x0), some (.int x1)] (by decide +kernel) rfl (Nat.le_of_ble_eq_true rfl) (w_X1_parts hd σ x0 x1) h
/-! NobodyBeenAft.relay(I)I -/
def f_X1_relay_50 (a0 : Nat) (x1 : Int32) (r_1 : Int32) : Nat → vMem → Int32 → Int32 → Option (Int32 × vMem)
  | 0, _, _, _ => none
  | n + 1, σ_2, v3, v4 => if x1 ≤ v4 then (some (r_1, σ_2)) else cko σ_2 a0 [1] (vl (imax (v3 + 1) (((gi σ_2 a0 8) - 1) - (r_1 * (x1 - v4)))) (fun v3_1 => cko σ_2 a0 [1] (bv (f_X1_tell σ_2 a0 (Int32.toInt64 v3_1)) (fun σ_3 => vl (v4 + 1) (fun v4_1 => f_X1_relay_50 a0 x1 r_1 n σ_3 v3_1 v4_1)))))
def f_X1_relay (σ : vMem) (a0 : Nat) (x1 : Int32) : Option (Int32 × vMem) := bp (f_X1_in σ (Int32.toInt64 x1) 0 10) (fun r => if ¬ r = 0 then (cko σ a0 [1] (if x1 ≤ ((gi σ a0 8) - 2) then (cko σ a0 [1] (bp (f_X1_parts σ ((gi σ a0 8) - 1) (x1 + 1)) (fun r_1 => cko σ a0 [1] (vl (si σ a0 18 0) (fun σ_1 => f_X1_relay_50 a0 x1 r_1 FU σ_1 0 0))))) else some ((-2), σ))) else some ((-1), σ))
abbrev P_X1_relay (l : Launch) (d n0 s0 : Nat) : vX → Prop := vMP l yX1_relay cX1_relay 5 (some .int) d n0 s0
theorem w_X1_relay_50 {l : Launch} {d n0 s0 : Nat} (hd : 1 ≤ d) (a0 : Nat) (x1 : Int32) (r_1 : Int32)  : ∀ (n : Nat) (σ_2 : vMem) (v3 : Int32) (v4 : Int32), V (P_X1_relay l d n0 s0) (vEmb eI) σ_2 50 [some (.ref a0), some (.int x1), some (.int r_1), some (.int v3), some (.int v4)] [] (f_X1_relay_50 a0 x1 r_1 n σ_2 v3 v4) := by
  have hC : vPx (P_X1_relay l d n0 s0) cX1_relay 5 "NobodyBeenAft" (some .int) d := vMP_cx
  intro n
  induction n with
  | zero =>
    intro σ_2 v3 v4
    exact V_none
  | succ n ih =>
    intro σ_2 v3 v4
    refine V_eq (f_X1_relay_50.eq_2 ..) ?_
    refine V_iload hC dX1_relay_50 rfl ?_
    refine V_iload_n hC dX1_relay_52 rfl ?_
    refine V_icmp_ge (tgt := 88) hC dX1_relay_53 (by decide) ?_ ?_
    · refine V_iload_n hC dX1_relay_88 rfl ?_
      exact V_ireturn dX1_relay_89 rfl rfl
    · refine V_iload_n hC dX1_relay_56 rfl ?_
      refine V_iconst (v := 1) hC dX1_relay_57 rfl ?_
      refine V_iadd hC dX1_relay_58 ?_
      refine V_aload_n hC dX1_relay_59 rfl ?_
      refine g_X1_48 hC dX1_relay_60 ?_
      refine V_iconst (v := 1) hC dX1_relay_63 rfl ?_
      refine V_isub hC dX1_relay_64 ?_
      refine V_iload_n hC dX1_relay_65 rfl ?_
      refine V_iload_n hC dX1_relay_66 rfl ?_
      refine V_iload hC dX1_relay_67 rfl ?_
      refine V_isub hC dX1_relay_69 ?_
      refine V_imul hC dX1_relay_70 ?_
      refine V_isub hC dX1_relay_71 ?_
      refine V_mmax hC dX1_relay_72 q676 q677 q90 q678 (Nat.le_of_ble_eq_true rfl) ?_
      refine V_istore_nL (ls' := fun v3_1 => [some (.ref a0), some (.int x1), some (.int r_1), some (.int v3_1), some (.int v4)]) hC dX1_relay_75 (by decide) rfl (fun _ => rfl) (fun v3_1 => ?_)
      refine V_aload_n hC dX1_relay_76 rfl ?_
      refine V_iload_n hC dX1_relay_77 rfl ?_
      refine V_i2l hC dX1_relay_78 ?_
      refine V_cko (fun hm => V_callV_V (c := 1) (As := [.long (Int32.toInt64 v3_1)]) (rest := []) (d' := 0) hC dX1_relay_79 1 (lw_V q768 q770 qs17 q85 q771) (by decide +kernel) (List.mem_singleton.mp hm) (by decide) (by decide) rfl rfl rfl (Nat.le_of_ble_eq_true rfl) (Nat.le_trans (by decide) hd) (by decide) vMP_l (fun _ h => c_X1_tell (Nat.le_refl _) h) (fun σ_3 => ?_))
      refine V_iincL (v := v4 + 1) (ls' := fun v4_1 => [some (.ref a0), some (.int x1), some (.int r_1), some (.int v3_1), some (.int v4_1)]) hC dX1_relay_82 rfl (by decide) rfl rfl (fun _ => rfl) (fun v4_1 => ?_)
      refine V_goto (tgt := 50) hC dX1_relay_85 (by decide) ?_
      exact ih σ_3 v3_1 v4_1
theorem w_X1_relay {l : Launch} {d n0 s0 : Nat} (hd : 1 ≤ d) (σ : vMem) (a0 : Nat) (x1 : Int32) : V (P_X1_relay l d n0 s0) (vEmb eI) σ 0 [some (.ref a0), some (.int x1), none, none, none] [] (f_X1_relay σ a0 x1) := by
  have hC : vPx (P_X1_relay l d n0 s0) cX1_relay 5 "NobodyBeenAft" (some .int) d := vMP_cx
  refine V_eq (f_X1_relay.eq_1 ..) ?_
  refine V_iload_n hC dX1_relay_0 rfl ?_
  refine V_i2l hC dX1_relay_1 ?_
  refine V_lconst (v := 0) hC dX1_relay_2 rfl ?_
  refine V_ldc2 hC dX1_relay_3 q1035 ?_
  refine V_callS_PI (As := [.long (Int32.toInt64 x1), .long 0, .long 10]) (rest := []) (d' := 0) hC dX1_relay_6 3 (lw_S q285 q286 q85 q287) (by decide +kernel) rfl rfl (Nat.le_of_ble_eq_true rfl) (Nat.le_trans (by decide) hd) (by decide) vMP_l (fun _ h => c_X1_in (Nat.le_refl _) h) (fun r => ?_)
  refine V_if_ne (tgt := 14) hC dX1_relay_9 (by decide) ?_ ?_
  · refine V_iload_n hC dX1_relay_14 rfl ?_
    refine V_aload_n hC dX1_relay_15 rfl ?_
    refine g_X1_48 hC dX1_relay_16 ?_
    refine V_iconst (v := 2) hC dX1_relay_19 rfl ?_
    refine V_isub hC dX1_relay_20 ?_
    refine V_icmp_le (tgt := 27) hC dX1_relay_21 (by decide) ?_ ?_
    · refine V_aload_n hC dX1_relay_27 rfl ?_
      refine g_X1_48 hC dX1_relay_28 ?_
      refine V_iconst (v := 1) hC dX1_relay_31 rfl ?_
      refine V_isub hC dX1_relay_32 ?_
      refine V_iload_n hC dX1_relay_33 rfl ?_
      refine V_iconst (v := 1) hC dX1_relay_34 rfl ?_
      refine V_iadd hC dX1_relay_35 ?_
      refine V_callS_PI (As := [.int ((gi σ a0 8) - 1), .int (x1 + 1)]) (rest := []) (d' := 0) hC dX1_relay_36 2 (lw_S q1036 q1037 q85 q1038) (by decide +kernel) rfl rfl (Nat.le_of_ble_eq_true rfl) (Nat.le_trans (by decide) hd) (by decide) vMP_l (fun _ h => c_X1_parts (Nat.le_refl _) h) (fun r_1 => ?_)
      refine V_istore_n (ls' := [some (.ref a0), some (.int x1), some (.int r_1), none, none]) hC dX1_relay_39 (by decide) rfl rfl ?_
      refine V_iconst (v := 0) hC dX1_relay_40 rfl ?_
      refine V_istore_n (ls' := [some (.ref a0), some (.int x1), some (.int r_1), some (.int 0), none]) hC dX1_relay_41 (by decide) rfl rfl ?_
      refine V_aload_n hC dX1_relay_42 rfl ?_
      refine V_iconst (v := 0) hC dX1_relay_43 rfl ?_
      refine p_X1_84 hC dX1_relay_44 (fun σ_1 => ?_)
      refine V_iconst (v := 0) hC dX1_relay_47 rfl ?_
      refine V_istore (ls' := [some (.ref a0), some (.int x1), some (.int r_1), some (.int 0), some (.int 0)]) hC dX1_relay_48 (by decide) rfl rfl ?_
      exact (w_X1_relay_50 hd a0 x1 r_1) FU σ_1 0 0
    · refine V_bipush (v := (-2)) hC dX1_relay_24 rfl ?_
      exact V_ireturn dX1_relay_26 rfl rfl
  · refine V_iconst (v := (-1)) hC dX1_relay_12 rfl ?_
    exact V_ireturn dX1_relay_13 rfl rfl
theorem c_X1_relay {l : Launch} {d : Nat} (hd : 1 ≤ d) {σ : vMem} {a0 : Nat} {x1 : Int32} {r : Int32 × vMem} (h : f_X1_relay σ a0 x1 = some r) : vOk l yX1_relay cX1_relay 5 (some .int) d [.ref a0, .int x1] σ (.inl ((eI).1 r, (eI).2 r)) := V_method (em := eI) [some (.ref a0), some (.int x1), none, none, none] (by decide +kernel) rfl (Nat.le_of_ble_eq_true rfl) (w_X1_relay hd σ a0 x1) h
/-! NobodyBeenAft.fewest(I)I -/
def f_X1_fewest (σ : vMem) (a0 : Nat) (x1 : Int32) : Option (Int32) := bp (f_X1_in σ (Int32.toInt64 x1) 1 39) (fun r => if r = 0 then (some (-1)) else cko σ a0 [1] (bp (f_X1_parts σ ((gi σ a0 8) - 1) x1) (fun r_1 => some (r_1 - 1))))
abbrev P_X1_fewest (l : Launch) (d n0 s0 : Nat) : vX → Prop := vMP l yX1_fewest cX1_fewest 2 (some .int) d n0 s0
theorem w_X1_fewest {l : Launch} {d n0 s0 : Nat} (hd : 1 ≤ d) (σ : vMem) (a0 : Nat) (x1 : Int32) : V (P_X1_fewest l d n0 s0) (vEmb (ePI σ)) σ 0 [some (.ref a0), some (.int x1)] [] (f_X1_fewest σ a0 x1) := by
  have hC : vPx (P_X1_fewest l d n0 s0) cX1_fewest 2 "NobodyBeenAft" (some .int) d := vMP_cx
  refine V_eq (f_X1_fewest.eq_1 ..) ?_
  refine V_iload_n hC dX1_fewest_0 rfl ?_
  refine V_i2l hC dX1_fewest_1 ?_
  refine V_lconst (v := 1) hC dX1_fewest_2 rfl ?_
  refine V_ldc2 hC dX1_fewest_3 q1043 ?_
  refine V_callS_PI (As := [.long (Int32.toInt64 x1), .long 1, .long 39]) (rest := []) (d' := 0) hC dX1_fewest_6 3 (lw_S q285 q286 q85 q287) (by decide +kernel) rfl rfl (Nat.le_of_ble_eq_true rfl) (Nat.le_trans (by decide) hd) (by decide) vMP_l (fun _ h => c_X1_in (Nat.le_refl _) h) (fun r => ?_)
  refine V_if_eq (tgt := 27) hC dX1_fewest_9 (by decide) ?_ ?_
  · refine V_iconst (v := (-1)) hC dX1_fewest_27 rfl ?_
    exact V_ireturn dX1_fewest_28 rfl rfl
  · refine V_aload_n hC dX1_fewest_12 rfl ?_
    refine g_X1_48 hC dX1_fewest_13 ?_
    refine V_iconst (v := 1) hC dX1_fewest_16 rfl ?_
    refine V_isub hC dX1_fewest_17 ?_
    refine V_iload_n hC dX1_fewest_18 rfl ?_
    refine V_callS_PI (As := [.int ((gi σ a0 8) - 1), .int x1]) (rest := []) (d' := 0) hC dX1_fewest_19 2 (lw_S q1036 q1037 q85 q1038) (by decide +kernel) rfl rfl (Nat.le_of_ble_eq_true rfl) (Nat.le_trans (by decide) hd) (by decide) vMP_l (fun _ h => c_X1_parts (Nat.le_refl _) h) (fun r_1 => ?_)
    refine V_iconst (v := 1) hC dX1_fewest_22 rfl ?_
    refine V_isub hC dX1_fewest_23 ?_
    refine V_goto (tgt := 28) hC dX1_fewest_24 (by decide) ?_
    exact V_ireturn dX1_fewest_28 rfl rfl
theorem c_X1_fewest {l : Launch} {d : Nat} (hd : 1 ≤ d) {σ : vMem} {a0 : Nat} {x1 : Int32} {r : Int32} (h : f_X1_fewest σ a0 x1 = some r) : vOk l yX1_fewest cX1_fewest 2 (some .int) d [.ref a0, .int x1] σ (.inl (((ePI σ)).1 r, ((ePI σ)).2 r)) := V_method (em := (ePI σ)) [some (.ref a0), some (.int x1)] (by decide +kernel) rfl (Nat.le_of_ble_eq_true rfl) (w_X1_fewest hd σ a0 x1) h
/-! NobodyBeenAft.right(II)J -/
def f_X1_right_81 (x0 : Int32) (b : Nat) (σ_3 : vMem) : Nat → Int64 → Int32 → Option (Int64 × vMem)
  | 0, _, _ => none
  | n + 1, v3, v5_1 => if x0 < v5_1 then (some (v3, σ_3)) else cka σ_3 b 106 v5_1 (vl (v3 + (gl σ_3 b (Int32.toNatClampNeg v5_1))) (fun v3_1 => vl (v5_1 + 1) (fun v5_2 => f_X1_right_81 x0 b σ_3 n v3_1 v5_2)))
def f_X1_right_22 (x0 : Int32) (x1 : Int32) (b : Nat) (v3_2 : Int32) (k_1 : vMem → Option (Int64 × vMem)) : Nat → vMem → Int32 → Option (Int64 × vMem)
  | 0, _, _ => none
  | n_2 + 1, σ_6, v4_1 => if v4_1 < 0 then (k_1 σ_6) else cka σ_6 b 106 v4_1 (vl (fun (y : Int64) => cka σ_6 b 106 v4_1 (vl (sl σ_6 b (Int32.toNatClampNeg v4_1) (((gl σ_6 b (Int32.toNatClampNeg v4_1)) * (Int32.toInt64 x1)) + y)) (fun σ_7 => vl (v4_1 + (-1)) (fun v4_2 => f_X1_right_22 x0 x1 b v3_2 k_1 n_2 σ_7 v4_2)))) (fun k_2 => if v4_1 ≤ 0 then (k_2 0) else cka σ_6 b 106 (v4_1 - 1) (k_2 ((gl σ_6 b (Int32.toNatClampNeg (v4_1 - 1))) * (Int32.toInt64 (10 - x1))))))
def f_X1_right_12 (x0 : Int32) (x1 : Int32) (b : Nat) (k : vMem → Option (Int64 × vMem)) : Nat → vMem → Int32 → Option (Int64 × vMem)
  | 0, _, _ => none
  | n_1 + 1, σ_4, v3_2 => if x0 ≤ v3_2 then (k σ_4) else vl (v3_2 + 1) (fun v4 => vl (fun (σ_5 : vMem) => vl (v3_2 + 1) (fun v3_3 => f_X1_right_12 x0 x1 b k n_1 σ_5 v3_3)) (fun k_1 => f_X1_right_22 x0 x1 b v3_2 k_1 FU σ_4 v4))
def f_X1_right (σ : vMem) (x0 : Int32) (x1 : Int32) : Option (Int64 × vMem) := nwa σ 106 (x0 + 1) (fun b σ_1 => cka σ_1 b 106 0 (vl (sl σ_1 b (Int32.toNatClampNeg 0) 1) (fun σ_2 => vl (fun (σ_3 : vMem) => vl ((x0 / 2) + 1) (fun v5 => f_X1_right_81 x0 b σ_3 FU 0 v5)) (fun k => f_X1_right_12 x0 x1 b k FU σ_2 0))))
abbrev P_X1_right (l : Launch) (d n0 s0 : Nat) : vX → Prop := vMP l yX1_right cX1_right 6 (some .long) d n0 s0
theorem w_X1_right_81 {l : Launch} {d n0 s0 : Nat} (hd : 0 ≤ d) (x0 : Int32) (b : Nat) (σ_3 : vMem)  : ∀ (n : Nat) (v3 : Int64) (v5_1 : Int32), V (P_X1_right l d n0 s0) (vEmb eL) σ_3 81 [some (.int x0), none, some (.ref b), some (.long v3), none, some (.int v5_1)] [] (f_X1_right_81 x0 b σ_3 n v3 v5_1) := by
  have hC : vPx (P_X1_right l d n0 s0) cX1_right 6 "NobodyBeenAft" (some .long) d := vMP_cx
  intro n
  induction n with
  | zero =>
    intro v3 v5_1
    exact V_none
  | succ n ih =>
    intro v3 v5_1
    refine V_eq (f_X1_right_81.eq_2 ..) ?_
    refine V_iload hC dX1_right_81 rfl ?_
    refine V_iload_n hC dX1_right_83 rfl ?_
    refine V_icmp_gt (tgt := 100) hC dX1_right_84 (by decide) ?_ ?_
    · refine V_lload_n hC dX1_right_100 rfl ?_
      exact V_lreturn dX1_right_101 rfl rfl
    · refine V_lload_n hC dX1_right_87 rfl ?_
      refine V_aload_n hC dX1_right_88 rfl ?_
      refine V_iload hC dX1_right_89 rfl ?_
      refine V_lald hC dX1_right_91 ?_
      refine V_ladd hC dX1_right_92 ?_
      refine V_lstore_nL (ls' := fun v3_1 => [some (.int x0), none, some (.ref b), some (.long v3_1), none, some (.int v5_1)]) hC dX1_right_93 (by decide) rfl (fun _ => rfl) (fun v3_1 => ?_)
      refine V_iincL (v := v5_1 + 1) (ls' := fun v5_2 => [some (.int x0), none, some (.ref b), some (.long v3_1), none, some (.int v5_2)]) hC dX1_right_94 rfl (by decide) rfl rfl (fun _ => rfl) (fun v5_2 => ?_)
      refine V_goto (tgt := 81) hC dX1_right_97 (by decide) ?_
      exact ih v3_1 v5_2
theorem w_X1_right_22 {l : Launch} {d n0 s0 : Nat} (hd : 0 ≤ d) (x0 : Int32) (x1 : Int32) (b : Nat) (v3_2 : Int32) (k_1 : vMem → Option (Int64 × vMem)) (hk_1 : ∀ (σ_5 : vMem), V (P_X1_right l d n0 s0) (vEmb eL) σ_5 66 [some (.int x0), some (.int x1), some (.ref b), some (.int v3_2), none, none] [] (k_1 σ_5)) : ∀ (n_2 : Nat) (σ_6 : vMem) (v4_1 : Int32), V (P_X1_right l d n0 s0) (vEmb eL) σ_6 22 [some (.int x0), some (.int x1), some (.ref b), some (.int v3_2), some (.int v4_1), none] [] (f_X1_right_22 x0 x1 b v3_2 k_1 n_2 σ_6 v4_1) := by
  have hC : vPx (P_X1_right l d n0 s0) cX1_right 6 "NobodyBeenAft" (some .long) d := vMP_cx
  intro n_2
  induction n_2 with
  | zero =>
    intro σ_6 v4_1
    exact V_none
  | succ n_2 ih =>
    intro σ_6 v4_1
    refine V_eq (f_X1_right_22.eq_2 ..) ?_
    refine V_iload hC dX1_right_22 rfl ?_
    refine V_if_lt (tgt := 66) hC dX1_right_24 (by decide) ?_ ?_
    · refine V_clr [4] (ls' := [some (.int x0), some (.int x1), some (.ref b), some (.int v3_2), none, none]) rfl ?_
      exact hk_1 σ_6
    · refine V_aload_n hC dX1_right_27 rfl ?_
      refine V_iload hC dX1_right_28 rfl ?_
      refine V_aload_n hC dX1_right_30 rfl ?_
      refine V_iload hC dX1_right_31 rfl ?_
      refine V_lald hC dX1_right_33 ?_
      refine V_iload_n hC dX1_right_34 rfl ?_
      refine V_i2l hC dX1_right_35 ?_
      refine V_lmul hC dX1_right_36 ?_
      refine V_iload hC dX1_right_37 rfl ?_
      refine V_let (B := fun k_2 => ∀ (y : Int64), V (P_X1_right l d n0 s0) (vEmb eL) σ_6 58 [some (.int x0), some (.int x1), some (.ref b), some (.int v3_2), some (.int v4_1), none] [.long y, .long ((gl σ_6 b (Int32.toNatClampNeg v4_1)) * (Int32.toInt64 x1)), .int v4_1, .ref b] (k_2 y)) ?_ ?_
      · intro y
        refine V_ladd hC dX1_right_58 ?_
        refine V_last hC dX1_right_59 (fun σ_7 => ?_)
        refine V_iincL (v := v4_1 + (-1)) (ls' := fun v4_2 => [some (.int x0), some (.int x1), some (.ref b), some (.int v3_2), some (.int v4_2), none]) hC dX1_right_60 rfl (by decide) rfl rfl (fun _ => rfl) (fun v4_2 => ?_)
        refine V_goto (tgt := 22) hC dX1_right_63 (by decide) ?_
        exact ih σ_7 v4_2
      · intro k_2 hk_2
        refine V_if_le (tgt := 57) hC dX1_right_39 (by decide) ?_ ?_
        · refine V_lconst (v := 0) hC dX1_right_57 rfl ?_
          exact hk_2 0
        · refine V_aload_n hC dX1_right_42 rfl ?_
          refine V_iload hC dX1_right_43 rfl ?_
          refine V_iconst (v := 1) hC dX1_right_45 rfl ?_
          refine V_isub hC dX1_right_46 ?_
          refine V_lald hC dX1_right_47 ?_
          refine V_bipush (v := 10) hC dX1_right_48 rfl ?_
          refine V_iload_n hC dX1_right_50 rfl ?_
          refine V_isub hC dX1_right_51 ?_
          refine V_i2l hC dX1_right_52 ?_
          refine V_lmul hC dX1_right_53 ?_
          refine V_goto (tgt := 58) hC dX1_right_54 (by decide) ?_
          exact hk_2 ((gl σ_6 b (Int32.toNatClampNeg (v4_1 - 1))) * (Int32.toInt64 (10 - x1)))
theorem w_X1_right_12 {l : Launch} {d n0 s0 : Nat} (hd : 0 ≤ d) (x0 : Int32) (x1 : Int32) (b : Nat) (k : vMem → Option (Int64 × vMem)) (hk : ∀ (σ_3 : vMem), V (P_X1_right l d n0 s0) (vEmb eL) σ_3 72 [some (.int x0), none, some (.ref b), none, none, none] [] (k σ_3)) : ∀ (n_1 : Nat) (σ_4 : vMem) (v3_2 : Int32), V (P_X1_right l d n0 s0) (vEmb eL) σ_4 12 [some (.int x0), some (.int x1), some (.ref b), some (.int v3_2), none, none] [] (f_X1_right_12 x0 x1 b k n_1 σ_4 v3_2) := by
  have hC : vPx (P_X1_right l d n0 s0) cX1_right 6 "NobodyBeenAft" (some .long) d := vMP_cx
  intro n_1
  induction n_1 with
  | zero =>
    intro σ_4 v3_2
    exact V_none
  | succ n_1 ih =>
    intro σ_4 v3_2
    refine V_eq (f_X1_right_12.eq_2 ..) ?_
    refine V_iload_n hC dX1_right_12 rfl ?_
    refine V_iload_n hC dX1_right_13 rfl ?_
    refine V_icmp_ge (tgt := 72) hC dX1_right_14 (by decide) ?_ ?_
    · refine V_clr [1, 3] (ls' := [some (.int x0), none, some (.ref b), none, none, none]) rfl ?_
      exact hk σ_4
    · refine V_iload_n hC dX1_right_17 rfl ?_
      refine V_iconst (v := 1) hC dX1_right_18 rfl ?_
      refine V_iadd hC dX1_right_19 ?_
      refine V_istoreL (ls' := fun v4 => [some (.int x0), some (.int x1), some (.ref b), some (.int v3_2), some (.int v4), none]) hC dX1_right_20 (by decide) rfl (fun _ => rfl) (fun v4 => ?_)
      refine V_let (B := fun k_1 => ∀ (σ_5 : vMem), V (P_X1_right l d n0 s0) (vEmb eL) σ_5 66 [some (.int x0), some (.int x1), some (.ref b), some (.int v3_2), none, none] [] (k_1 σ_5)) ?_ ?_
      · intro σ_5
        refine V_iincL (v := v3_2 + 1) (ls' := fun v3_3 => [some (.int x0), some (.int x1), some (.ref b), some (.int v3_3), none, none]) hC dX1_right_66 rfl (by decide) rfl rfl (fun _ => rfl) (fun v3_3 => ?_)
        refine V_goto (tgt := 12) hC dX1_right_69 (by decide) ?_
        exact ih σ_5 v3_3
      · intro k_1 hk_1
        exact (w_X1_right_22 hd x0 x1 b v3_2 k_1 hk_1) FU σ_4 v4
theorem w_X1_right {l : Launch} {d n0 s0 : Nat} (hd : 0 ≤ d) (σ : vMem) (x0 : Int32) (x1 : Int32) : V (P_X1_right l d n0 s0) (vEmb eL) σ 0 [some (.int x0), some (.int x1), none, none, none, none] [] (f_X1_right σ x0 x1) := by
  have hC : vPx (P_X1_right l d n0 s0) cX1_right 6 "NobodyBeenAft" (some .long) d := vMP_cx
  refine V_eq (f_X1_right.eq_1 ..) ?_
  refine V_iload_n hC dX1_right_0 rfl ?_
  refine V_iconst (v := 1) hC dX1_right_1 rfl ?_
  refine V_iadd hC dX1_right_2 ?_
  refine V_newa_long hC dX1_right_3 q275 (fun b σ_1 => ?_)
  refine V_astore_n (ls' := [some (.int x0), some (.int x1), some (.ref b), none, none, none]) hC dX1_right_5 (by decide) rfl rfl ?_
  refine V_aload_n hC dX1_right_6 rfl ?_
  refine V_iconst (v := 0) hC dX1_right_7 rfl ?_
  refine V_lconst (v := 1) hC dX1_right_8 rfl ?_
  refine V_last hC dX1_right_9 (fun σ_2 => ?_)
  refine V_iconst (v := 0) hC dX1_right_10 rfl ?_
  refine V_istore_n (ls' := [some (.int x0), some (.int x1), some (.ref b), some (.int 0), none, none]) hC dX1_right_11 (by decide) rfl rfl ?_
  refine V_let (B := fun k => ∀ (σ_3 : vMem), V (P_X1_right l d n0 s0) (vEmb eL) σ_3 72 [some (.int x0), none, some (.ref b), none, none, none] [] (k σ_3)) ?_ ?_
  · intro σ_3
    refine V_lconst (v := 0) hC dX1_right_72 rfl ?_
    refine V_lstore_n (ls' := [some (.int x0), none, some (.ref b), some (.long 0), none, none]) hC dX1_right_73 (by decide) rfl rfl ?_
    refine V_iload_n hC dX1_right_74 rfl ?_
    refine V_iconst (v := 2) hC dX1_right_75 rfl ?_
    refine V_idiv hC dX1_right_76 (by decide) ?_
    refine V_iconst (v := 1) hC dX1_right_77 rfl ?_
    refine V_iadd hC dX1_right_78 ?_
    refine V_istoreL (ls' := fun v5 => [some (.int x0), none, some (.ref b), some (.long 0), none, some (.int v5)]) hC dX1_right_79 (by decide) rfl (fun _ => rfl) (fun v5 => ?_)
    exact (w_X1_right_81 hd x0 b σ_3) FU 0 v5
  · intro k hk
    exact (w_X1_right_12 hd x0 x1 b k hk) FU σ_2 0
theorem c_X1_right {l : Launch} {d : Nat} (hd : 0 ≤ d) {σ : vMem} {x0 : Int32} {x1 : Int32} {r : Int64 × vMem} (h : f_X1_right σ x0 x1 = some r) : vOk l yX1_right cX1_right 6 (some .long) d [.int x0, .int x1] σ (.inl ((eL).1 r, (eL).2 r)) := V_method (em := eL) [some (.int x0), some (.int x1), none, none, none, none] (by decide +kernel) rfl (Nat.le_of_ble_eq_true rfl) (w_X1_right hd σ x0 x1) h
/-! NobodyBeenAft.power(JI)J -/
def f_X1_power_5 (σ : vMem) (x0 : Int64) (x2 : Int32) : Nat → Int64 → Int32 → Option (Int64)
  | 0, _, _ => none
  | n + 1, v3, v5 => if x2 ≤ v5 then (some v3) else vl (v3 * x0) (fun v3_1 => vl (v5 + 1) (fun v5_1 => f_X1_power_5 σ x0 x2 n v3_1 v5_1))
def f_X1_power (σ : vMem) (x0 : Int64) (x2 : Int32) : Option (Int64) := f_X1_power_5 σ x0 x2 FU 1 0
abbrev P_X1_power (l : Launch) (d n0 s0 : Nat) : vX → Prop := vMP l yX1_power cX1_power 6 (some .long) d n0 s0
theorem w_X1_power_5 {l : Launch} {d n0 s0 : Nat} (hd : 0 ≤ d) (σ : vMem) (x0 : Int64) (x2 : Int32)  : ∀ (n : Nat) (v3 : Int64) (v5 : Int32), V (P_X1_power l d n0 s0) (vEmb (ePL σ)) σ 5 [some (.long x0), none, some (.int x2), some (.long v3), none, some (.int v5)] [] (f_X1_power_5 σ x0 x2 n v3 v5) := by
  have hC : vPx (P_X1_power l d n0 s0) cX1_power 6 "NobodyBeenAft" (some .long) d := vMP_cx
  intro n
  induction n with
  | zero =>
    intro v3 v5
    exact V_none
  | succ n ih =>
    intro v3 v5
    refine V_eq (f_X1_power_5.eq_2 ..) ?_
    refine V_iload hC dX1_power_5 rfl ?_
    refine V_iload_n hC dX1_power_7 rfl ?_
    refine V_icmp_ge (tgt := 21) hC dX1_power_8 (by decide) ?_ ?_
    · refine V_lload_n hC dX1_power_21 rfl ?_
      exact V_lreturn dX1_power_22 rfl rfl
    · refine V_lload_n hC dX1_power_11 rfl ?_
      refine V_lload_n hC dX1_power_12 rfl ?_
      refine V_lmul hC dX1_power_13 ?_
      refine V_lstore_nL (ls' := fun v3_1 => [some (.long x0), none, some (.int x2), some (.long v3_1), none, some (.int v5)]) hC dX1_power_14 (by decide) rfl (fun _ => rfl) (fun v3_1 => ?_)
      refine V_iincL (v := v5 + 1) (ls' := fun v5_1 => [some (.long x0), none, some (.int x2), some (.long v3_1), none, some (.int v5_1)]) hC dX1_power_15 rfl (by decide) rfl rfl (fun _ => rfl) (fun v5_1 => ?_)
      refine V_goto (tgt := 5) hC dX1_power_18 (by decide) ?_
      exact ih v3_1 v5_1
theorem w_X1_power {l : Launch} {d n0 s0 : Nat} (hd : 0 ≤ d) (σ : vMem) (x0 : Int64) (x2 : Int32) : V (P_X1_power l d n0 s0) (vEmb (ePL σ)) σ 0 [some (.long x0), none, some (.int x2), none, none, none] [] (f_X1_power σ x0 x2) := by
  have hC : vPx (P_X1_power l d n0 s0) cX1_power 6 "NobodyBeenAft" (some .long) d := vMP_cx
  refine V_eq (f_X1_power.eq_1 ..) ?_
  refine V_lconst (v := 1) hC dX1_power_0 rfl ?_
  refine V_lstore_n (ls' := [some (.long x0), none, some (.int x2), some (.long 1), none, none]) hC dX1_power_1 (by decide) rfl rfl ?_
  refine V_iconst (v := 0) hC dX1_power_2 rfl ?_
  refine V_istore (ls' := [some (.long x0), none, some (.int x2), some (.long 1), none, some (.int 0)]) hC dX1_power_3 (by decide) rfl rfl ?_
  exact (w_X1_power_5 hd σ x0 x2) FU 1 0
theorem c_X1_power {l : Launch} {d : Nat} (hd : 0 ≤ d) {σ : vMem} {x0 : Int64} {x2 : Int32} {r : Int64} (h : f_X1_power σ x0 x2 = some r) : vOk l yX1_power cX1_power 6 (some .long) d [.long x0, .int x2] σ (.inl (((ePL σ)).1 r, ((ePL σ)).2 r)) := V_method (em := (ePL σ)) [some (.long x0), none, some (.int x2), none, none, none] (by decide +kernel) rfl (Nat.le_of_ble_eq_true rfl) (w_X1_power hd σ x0 x2) h
/-! NobodyBeenAft.common(JJ)J -/
def f_X1_common_b (th : vMem → Int64 → Int64 → Option Int64) (σ : vMem) (x0 : Int64) (x2 : Int64) : Option (Int64) := if ¬ (lg_cmp x2 0) = 0 then (ck (¬ x2 = 0) (bp (th σ x2 (x0 - (x0 / x2) * x2)) (fun r => some r))) else some x0
abbrev P_X1_common (l : Launch) (d n0 s0 : Nat) : vX → Prop := vMP l yX1_common cX1_common 4 (some .long) d n0 s0
theorem w_X1_common {l : Launch} {d n0 s0 : Nat} (hd : 0 ≤ d) (th : vMem → Int64 → Int64 → Option Int64) {d1 : Nat} (hd1 : d1 + 1 ≤ d) (hth : ∀ {σ : vMem} {x0 x2 r : Int64}, th σ x0 x2 = some r → vOk l yX1_common cX1_common 4 (some .long) d1 [.long x0, .long x2] σ (.inl ((ePL σ).1 r, (ePL σ).2 r))) (σ : vMem) (x0 : Int64) (x2 : Int64) : V (P_X1_common l d n0 s0) (vEmb (ePL σ)) σ 0 [some (.long x0), none, some (.long x2), none] [] (f_X1_common_b th σ x0 x2) := by
  have hC : vPx (P_X1_common l d n0 s0) cX1_common 4 "NobodyBeenAft" (some .long) d := vMP_cx
  refine V_eq (f_X1_common_b.eq_1 ..) ?_
  refine V_lload_n hC dX1_common_0 rfl ?_
  refine V_lconst (v := 0) hC dX1_common_1 rfl ?_
  refine V_lcmp hC dX1_common_2 ?_
  refine V_if_ne (tgt := 10) hC dX1_common_3 (by decide) ?_ ?_
  · refine V_lload_n hC dX1_common_10 rfl ?_
    refine V_lload_n hC dX1_common_11 rfl ?_
    refine V_lload_n hC dX1_common_12 rfl ?_
    refine V_ck (fun h9 => V_lrem hC dX1_common_13 h9 ?_)
    refine V_callS_PL (As := [.long x2, .long (x0 - (x0 / x2) * x2)]) (rest := []) (d' := d1) hC dX1_common_14 2 (lw_S q1059 q1060 q85 q1061) (by decide +kernel) rfl rfl (Nat.le_of_ble_eq_true rfl) hd1 (by decide) vMP_l (fun _ h => hth h) (fun r => ?_)
    exact V_lreturn dX1_common_17 rfl rfl
  · refine V_lload_n hC dX1_common_6 rfl ?_
    refine V_goto (tgt := 17) hC dX1_common_7 (by decide) ?_
    exact V_lreturn dX1_common_17 rfl rfl
theorem c_X1_common_b {l : Launch} {d : Nat} (hd : 0 ≤ d) (th : vMem → Int64 → Int64 → Option Int64) {d1 : Nat} (hd1 : d1 + 1 ≤ d) (hth : ∀ {σ : vMem} {x0 x2 r : Int64}, th σ x0 x2 = some r → vOk l yX1_common cX1_common 4 (some .long) d1 [.long x0, .long x2] σ (.inl ((ePL σ).1 r, (ePL σ).2 r))) {σ : vMem} {x0 : Int64} {x2 : Int64} {r : Int64} (h : f_X1_common_b th σ x0 x2 = some r) : vOk l yX1_common cX1_common 4 (some .long) d [.long x0, .long x2] σ (.inl (((ePL σ)).1 r, ((ePL σ)).2 r)) := V_method (em := (ePL σ)) [some (.long x0), none, some (.long x2), none] (by decide +kernel) rfl (Nat.le_of_ble_eq_true rfl) (w_X1_common hd th hd1 hth σ x0 x2) h
def f_X1_common : Nat → vMem → Int64 → Int64 → Option Int64
  | 0, _, _, _ => none
  | n + 1, σ, x0, x2 => f_X1_common_b (f_X1_common n) σ x0 x2
theorem c_X1_common {l : Launch} : ∀ {n d : Nat}, n ≤ d → ∀ {σ : vMem} {x0 x2 r : Int64}, f_X1_common n σ x0 x2 = some r → vOk l yX1_common cX1_common 4 (some .long) d [.long x0, .long x2] σ (.inl ((ePL σ).1 r, (ePL σ).2 r)) := by
  intro n
  induction n with
  | zero => intro d hd σ x0 x2 r h; cases h
  | succ n ih => intro d hd σ x0 x2 r h; exact c_X1_common_b (d1 := n) (Nat.zero_le _) _ hd (fun h => ih (Nat.le_refl n) h) h
/-! NobodyBeenAft.tellPart(JJ)V -/
def f_X1_tellPart (σ : vMem) (a0 : Nat) (x1 : Int64) (x3 : Int64) : Option (vMem) := bp (f_X1_common 100 σ x1 x3) (fun r => ck (¬ r = 0) (cko σ a0 [1] (bv (f_X1_tell σ a0 (x1 / r)) (fun σ_1 => ck (¬ r = 0) (cko σ_1 a0 [1] (bv (f_X1_tell σ_1 a0 (x3 / r)) (fun σ_2 => some σ_2)))))))
abbrev P_X1_tellPart (l : Launch) (d n0 s0 : Nat) : vX → Prop := vMP l yX1_tellPart cX1_tellPart 7 none d n0 s0
theorem w_X1_tellPart {l : Launch} {d n0 s0 : Nat} (hd : 101 ≤ d) (σ : vMem) (a0 : Nat) (x1 : Int64) (x3 : Int64) : V (P_X1_tellPart l d n0 s0) (vEmb eV) σ 0 [some (.ref a0), some (.long x1), none, some (.long x3), none, none, none] [] (f_X1_tellPart σ a0 x1 x3) := by
  have hC : vPx (P_X1_tellPart l d n0 s0) cX1_tellPart 7 "NobodyBeenAft" none d := vMP_cx
  refine V_eq (f_X1_tellPart.eq_1 ..) ?_
  refine V_lload_n hC dX1_tellPart_0 rfl ?_
  refine V_lload_n hC dX1_tellPart_1 rfl ?_
  refine V_callS_PL (As := [.long x1, .long x3]) (rest := []) (d' := 100) hC dX1_tellPart_2 2 (lw_S q1059 q1060 q85 q1061) (by decide +kernel) rfl rfl (Nat.le_of_ble_eq_true rfl) (Nat.le_trans (by decide) hd) (by decide) vMP_l (fun _ h => c_X1_common (n := 100) (Nat.le_of_ble_eq_true rfl) h) (fun r => ?_)
  refine V_lstore (ls' := [some (.ref a0), some (.long x1), none, some (.long x3), none, some (.long r), none]) hC dX1_tellPart_5 (by decide) rfl rfl ?_
  refine V_aload_n hC dX1_tellPart_7 rfl ?_
  refine V_lload_n hC dX1_tellPart_8 rfl ?_
  refine V_lload hC dX1_tellPart_9 rfl ?_
  refine V_ck (fun h9 => V_ldiv hC dX1_tellPart_11 h9 ?_)
  refine V_cko (fun hm => V_callV_V (c := 1) (As := [.long (x1 / r)]) (rest := []) (d' := 0) hC dX1_tellPart_12 1 (lw_V q768 q770 qs17 q85 q771) (by decide +kernel) (List.mem_singleton.mp hm) (by decide) (by decide) rfl rfl rfl (Nat.le_of_ble_eq_true rfl) (Nat.le_trans (by decide) hd) (by decide) vMP_l (fun _ h => c_X1_tell (Nat.le_refl _) h) (fun σ_1 => ?_))
  refine V_aload_n hC dX1_tellPart_15 rfl ?_
  refine V_lload_n hC dX1_tellPart_16 rfl ?_
  refine V_lload hC dX1_tellPart_17 rfl ?_
  refine V_ck (fun h9 => V_ldiv hC dX1_tellPart_19 h9 ?_)
  refine V_cko (fun hm => V_callV_V (c := 1) (As := [.long (x3 / r)]) (rest := []) (d' := 0) hC dX1_tellPart_20 1 (lw_V q768 q770 qs17 q85 q771) (by decide +kernel) (List.mem_singleton.mp hm) (by decide) (by decide) rfl rfl rfl (Nat.le_of_ble_eq_true rfl) (Nat.le_trans (by decide) hd) (by decide) vMP_l (fun _ h => c_X1_tell (Nat.le_refl _) h) (fun σ_2 => ?_))
  exact V_return dX1_tellPart_23 rfl rfl
theorem c_X1_tellPart {l : Launch} {d : Nat} (hd : 101 ≤ d) {σ : vMem} {a0 : Nat} {x1 : Int64} {x3 : Int64} {r : vMem} (h : f_X1_tellPart σ a0 x1 x3 = some r) : vOk l yX1_tellPart cX1_tellPart 7 none d [.ref a0, .long x1, .long x3] σ (.inl ((eV).1 r, (eV).2 r)) := V_method (em := eV) [some (.ref a0), some (.long x1), none, some (.long x3), none, none, none] (by decide +kernel) rfl (Nat.le_of_ble_eq_true rfl) (w_X1_tellPart hd σ a0 x1 x3) h
/-! NobodyBeenAft.word(II)I -/
def f_X1_word (σ : vMem) (a0 : Nat) (x1 : Int32) (x2 : Int32) : Option (Int32 × vMem) := bp (f_X1_in σ (Int32.toInt64 x1) 1 15) (fun r => if r = 0 then (some ((-1), σ)) else if (x1 - (x1 / 2) * 2) = 0 then (some ((-1), σ)) else bp (f_X1_in σ (Int32.toInt64 x2) 0 10) (fun r_1 => if ¬ r_1 = 0 then (cko σ a0 [1] (vl (si σ a0 18 0) (fun σ_1 => bd (f_X1_right σ_1 x1 x2) (fun r_2 σ_2 => bp (f_X1_power σ_2 10 x1) (fun r_3 => cko σ_2 a0 [1] (bv (f_X1_tellPart σ_2 a0 r_2 r_3) (fun σ_3 => some (0, σ_3)))))))) else some ((-1), σ)))
abbrev P_X1_word (l : Launch) (d n0 s0 : Nat) : vX → Prop := vMP l yX1_word cX1_word 3 (some .int) d n0 s0
theorem w_X1_word {l : Launch} {d n0 s0 : Nat} (hd : 102 ≤ d) (σ : vMem) (a0 : Nat) (x1 : Int32) (x2 : Int32) : V (P_X1_word l d n0 s0) (vEmb eI) σ 0 [some (.ref a0), some (.int x1), some (.int x2)] [] (f_X1_word σ a0 x1 x2) := by
  have hC : vPx (P_X1_word l d n0 s0) cX1_word 3 "NobodyBeenAft" (some .int) d := vMP_cx
  refine V_eq (f_X1_word.eq_1 ..) ?_
  refine V_iload_n hC dX1_word_0 rfl ?_
  refine V_i2l hC dX1_word_1 ?_
  refine V_lconst (v := 1) hC dX1_word_2 rfl ?_
  refine V_ldc2 hC dX1_word_3 q1048 ?_
  refine V_callS_PI (As := [.long (Int32.toInt64 x1), .long 1, .long 15]) (rest := []) (d' := 0) hC dX1_word_6 3 (lw_S q285 q286 q85 q287) (by decide +kernel) rfl rfl (Nat.le_of_ble_eq_true rfl) (Nat.le_trans (by decide) hd) (by decide) vMP_l (fun _ h => c_X1_in (Nat.le_refl _) h) (fun r => ?_)
  refine V_if_eq (tgt := 30) hC dX1_word_9 (by decide) ?_ ?_
  · refine V_iconst (v := (-1)) hC dX1_word_30 rfl ?_
    exact V_ireturn dX1_word_31 rfl rfl
  · refine V_iload_n hC dX1_word_12 rfl ?_
    refine V_iconst (v := 2) hC dX1_word_13 rfl ?_
    refine V_irem hC dX1_word_14 (by decide) ?_
    refine V_if_eq (tgt := 30) hC dX1_word_15 (by decide) ?_ ?_
    · refine V_iconst (v := (-1)) hC dX1_word_30 rfl ?_
      exact V_ireturn dX1_word_31 rfl rfl
    · refine V_iload_n hC dX1_word_18 rfl ?_
      refine V_i2l hC dX1_word_19 ?_
      refine V_lconst (v := 0) hC dX1_word_20 rfl ?_
      refine V_ldc2 hC dX1_word_21 q1035 ?_
      refine V_callS_PI (As := [.long (Int32.toInt64 x2), .long 0, .long 10]) (rest := []) (d' := 0) hC dX1_word_24 3 (lw_S q285 q286 q85 q287) (by decide +kernel) rfl rfl (Nat.le_of_ble_eq_true rfl) (Nat.le_trans (by decide) hd) (by decide) vMP_l (fun _ h => c_X1_in (Nat.le_refl _) h) (fun r_1 => ?_)
      refine V_if_ne (tgt := 32) hC dX1_word_27 (by decide) ?_ ?_
      · refine V_aload_n hC dX1_word_32 rfl ?_
        refine V_iconst (v := 0) hC dX1_word_33 rfl ?_
        refine p_X1_84 hC dX1_word_34 (fun σ_1 => ?_)
        refine V_aload_n hC dX1_word_37 rfl ?_
        refine V_iload_n hC dX1_word_38 rfl ?_
        refine V_iload_n hC dX1_word_39 rfl ?_
        refine V_callS_L (As := [.int x1, .int x2]) (rest := [.ref a0]) (d' := 0) hC dX1_word_40 2 (lw_S q1049 q1050 q85 q1051) (by decide +kernel) rfl rfl (Nat.le_of_ble_eq_true rfl) (Nat.le_trans (by decide) hd) (by decide) vMP_l (fun _ h => c_X1_right (Nat.le_refl _) h) (fun r_2 σ_2 => ?_)
        refine V_ldc2 hC dX1_word_43 q1035 ?_
        refine V_iload_n hC dX1_word_46 rfl ?_
        refine V_callS_PL (As := [.long 10, .int x1]) (rest := [.long r_2, .ref a0]) (d' := 0) hC dX1_word_47 2 (lw_S q1052 q1053 q85 q1054) (by decide +kernel) rfl rfl (Nat.le_of_ble_eq_true rfl) (Nat.le_trans (by decide) hd) (by decide) vMP_l (fun _ h => c_X1_power (Nat.le_refl _) h) (fun r_3 => ?_)
        refine V_cko (fun hm => V_callV_V (c := 1) (As := [.long r_2, .long r_3]) (rest := []) (d' := 101) hC dX1_word_50 2 (lw_V q1055 q1057 qs21 q85 q1058) (by decide +kernel) (List.mem_singleton.mp hm) (by decide) (by decide) rfl rfl rfl (Nat.le_of_ble_eq_true rfl) (Nat.le_trans (by decide) hd) (by decide) vMP_l (fun _ h => c_X1_tellPart (Nat.le_refl _) h) (fun σ_3 => ?_))
        refine V_iconst (v := 0) hC dX1_word_53 rfl ?_
        exact V_ireturn dX1_word_54 rfl rfl
      · refine V_iconst (v := (-1)) hC dX1_word_30 rfl ?_
        exact V_ireturn dX1_word_31 rfl rfl
theorem c_X1_word {l : Launch} {d : Nat} (hd : 102 ≤ d) {σ : vMem} {a0 : Nat} {x1 : Int32} {x2 : Int32} {r : Int32 × vMem} (h : f_X1_word σ a0 x1 x2 = some r) : vOk l yX1_word cX1_word 3 (some .int) d [.ref a0, .int x1, .int x2] σ (.inl ((eI).1 r, (eI).2 r)) := V_method (em := eI) [some (.ref a0), some (.int x1), some (.int x2)] (by decide +kernel) rfl (Nat.le_of_ble_eq_true rfl) (w_X1_word hd σ a0 x1 x2) h
