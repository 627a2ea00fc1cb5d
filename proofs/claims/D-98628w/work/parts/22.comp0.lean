/-! MACHINE HALF, printed by gen/build.py: terms (f_), walks (w_), contracts (c_) -/
set_option maxRecDepth 100000
/-! NobodyBeenAft.in(JJJ)Z -/
def f_X1_in (σ : vMem) (x0 : Int64) (x2 : Int64) (x4 : Int64) : Option (Int32) := vl (some 0) (fun k => if (lg_cmp x0 x2) < 0 then k else if 0 < (lg_cmp x0 x4) then k else some 1)
abbrev P_X1_in (l : Launch) (d n0 s0 : Nat) : vX → Prop := vMP l yX1_in cX1_in 6 (some .boolean) d n0 s0
theorem w_X1_in {l : Launch} {d n0 s0 : Nat} (hd : 0 ≤ d) (σ : vMem) (x0 : Int64) (x2 : Int64) (x4 : Int64) : V (P_X1_in l d n0 s0) (vEmb (ePI σ)) σ 0 [some (.long x0), none, some (.long x2), none, some (.long x4), none] [] (f_X1_in σ x0 x2 x4) := by
  have hC : vPx (P_X1_in l d n0 s0) cX1_in 6 "NobodyBeenAft" (some .boolean) d := vMP_cx
  refine V_eq (f_X1_in.eq_1 ..) ?_
  refine V_lload_n hC dX1_in_0 rfl ?_
  refine V_lload_n hC dX1_in_1 rfl ?_
  refine V_lcmp hC dX1_in_2 ?_
  refine V_let (B := fun k => V (P_X1_in l d n0 s0) (vEmb (ePI σ)) σ 17 [none, none, none, none, none, none] [] (k)) ?_ ?_
  · skip
    refine V_iconst (v := 0) hC dX1_in_17 rfl ?_
    exact V_zreturn rfl dX1_in_18 rfl rfl
  · intro k hk
    refine V_if_lt (tgt := 17) hC dX1_in_3 (by decide) ?_ ?_
    · refine V_clr [0, 2, 4] (ls' := [none, none, none, none, none, none]) rfl ?_
      exact hk
    · refine V_lload_n hC dX1_in_6 rfl ?_
      refine V_lload hC dX1_in_7 rfl ?_
      refine V_lcmp hC dX1_in_9 ?_
      refine V_if_gt (tgt := 17) hC dX1_in_10 (by decide) ?_ ?_
      · refine V_clr [0, 2, 4] (ls' := [none, none, none, none, none, none]) rfl ?_
        exact hk
      · refine V_iconst (v := 1) hC dX1_in_13 rfl ?_
        refine V_goto (tgt := 18) hC dX1_in_14 (by decide) ?_
        exact V_zreturn rfl dX1_in_18 rfl rfl
theorem c_X1_in {l : Launch} {d : Nat} (hd : 0 ≤ d) {σ : vMem} {x0 : Int64} {x2 : Int64} {x4 : Int64} {r : Int32} (h : f_X1_in σ x0 x2 x4 = some r) : vOk l yX1_in cX1_in 6 (some .boolean) d [.long x0, .long x2, .long x4] σ (.inl (((ePI σ)).1 r, ((ePI σ)).2 r)) := V_method (em := (ePI σ)) [some (.long x0), none, some (.long x2), none, some (.long x4), none] (by decide +kernel) rfl (Nat.le_of_ble_eq_true rfl) (w_X1_in hd σ x0 x2 x4) h
/-! NobodyBeenAft.has(II)Z -/
def f_X1_has (σ : vMem) (x0 : Int32) (x1 : Int32) : Option (Int32) := if ¬ ((x0 >>> (x1 &&& 31)) &&& 1) = 1 then (some 0) else some 1
abbrev P_X1_has (l : Launch) (d n0 s0 : Nat) : vX → Prop := vMP l yX1_has cX1_has 2 (some .boolean) d n0 s0
theorem w_X1_has {l : Launch} {d n0 s0 : Nat} (hd : 0 ≤ d) (σ : vMem) (x0 : Int32) (x1 : Int32) : V (P_X1_has l d n0 s0) (vEmb (ePI σ)) σ 0 [some (.int x0), some (.int x1)] [] (f_X1_has σ x0 x1) := by
  have hC : vPx (P_X1_has l d n0 s0) cX1_has 2 "NobodyBeenAft" (some .boolean) d := vMP_cx
  refine V_eq (f_X1_has.eq_1 ..) ?_
  refine V_iload_n hC dX1_has_0 rfl ?_
  refine V_iload_n hC dX1_has_1 rfl ?_
  refine V_ishr hC dX1_has_2 ?_
  refine V_iconst (v := 1) hC dX1_has_3 rfl ?_
  refine V_iand hC dX1_has_4 ?_
  refine V_iconst (v := 1) hC dX1_has_5 rfl ?_
  refine V_icmp_ne (tgt := 13) hC dX1_has_6 (by decide) ?_ ?_
  · refine V_iconst (v := 0) hC dX1_has_13 rfl ?_
    exact V_zreturn rfl dX1_has_14 rfl rfl
  · refine V_iconst (v := 1) hC dX1_has_9 rfl ?_
    refine V_goto (tgt := 14) hC dX1_has_10 (by decide) ?_
    exact V_zreturn rfl dX1_has_14 rfl rfl
theorem c_X1_has {l : Launch} {d : Nat} (hd : 0 ≤ d) {σ : vMem} {x0 : Int32} {x1 : Int32} {r : Int32} (h : f_X1_has σ x0 x1 = some r) : vOk l yX1_has cX1_has 2 (some .boolean) d [.int x0, .int x1] σ (.inl (((ePI σ)).1 r, ((ePI σ)).2 r)) := V_method (em := (ePI σ)) [some (.int x0), some (.int x1)] (by decide +kernel) rfl (Nat.le_of_ble_eq_true rfl) (w_X1_has hd σ x0 x1) h
/-! NobodyBeenAft.post(II)I -/
def f_X1_post (σ : vMem) (a0 : Nat) (x1 : Int32) (x2 : Int32) : Option ((Int32 × vMem) ⊕ (Nat × vMem)) := cko σ a0 [1] (bp (f_X1_in σ (Int32.toInt64 x1) 0 (Int32.toInt64 ((gi σ a0 9) - 1))) (fun r => vl (nw σ 17 6 (fun b σ_1 => cko σ_1 b [6, 17, 18] (some (.inr (b, σ_1))))) (fun k => if r = 0 then k else bp (f_X1_in σ (Int32.toInt64 x2) 0 1) (fun r_1 => if ¬ r_1 = 0 then (if ¬ x2 = 0 then (cko σ a0 [1] (bp (f_X1_has σ (gi σ a0 10) x1) (fun r_2 => if r_2 = 0 then (some (.inl (0, σ))) else some (.inl (1, σ))))) else cko σ a0 [1] (dr (gr σ a0 4) (fun b_1 => cka σ b_1 105 x1 (some (.inl ((gi σ b_1 (Int32.toNatClampNeg x1)), σ)))))) else k))))
abbrev P_X1_post (l : Launch) (d n0 s0 : Nat) : vX → Prop := vMX l yX1_post cX1_post 3 (some .int) [] d n0 s0
theorem w_X1_post {l : Launch} {d n0 s0 : Nat} (hd : 5 ≤ d) (h0 : l.stackTraces = false) (σ : vMem) (a0 : Nat) (x1 : Int32) (x2 : Int32) : V (P_X1_post l d n0 s0) xI σ 0 [some (.ref a0), some (.int x1), some (.int x2)] [] (f_X1_post σ a0 x1 x2) := by
  have hC : vPx (P_X1_post l d n0 s0) cX1_post 3 "NobodyBeenAft" (some .int) d := vMX_cx
  refine V_eq (f_X1_post.eq_1 ..) ?_
  refine V_iload_n hC dX1_post_0 rfl ?_
  refine V_i2l hC dX1_post_1 ?_
  refine V_lconst (v := 0) hC dX1_post_2 rfl ?_
  refine V_aload_n hC dX1_post_3 rfl ?_
  refine g_X1_122 hC dX1_post_4 ?_
  refine V_iconst (v := 1) hC dX1_post_7 rfl ?_
  refine V_isub hC dX1_post_8 ?_
  refine V_i2l hC dX1_post_9 ?_
  refine V_callS_PI (As := [.long (Int32.toInt64 x1), .long 0, .long (Int32.toInt64 ((gi σ a0 9) - 1))]) (rest := []) (d' := 0) hC dX1_post_10 3 (lw_S q285 q286 q85 q287) (by decide +kernel) rfl rfl (Nat.le_of_ble_eq_true rfl) (Nat.le_trans (by decide) hd) (by decide) vMX_l (fun _ h => c_X1_in (Nat.le_refl _) h) (fun r => ?_)
  refine V_let (B := fun k => V (P_X1_post l d n0 s0) xI σ 26 [none, none, none] [] (k)) ?_ ?_
  · skip
    refine V_nsee hC (Nat.le_trans (by decide) hd) (fun X hX => (congrArg Launch.stackTraces (vMX_l X hX)).trans h0) dX1_post_26 dX1_post_29 dX1_post_30 (by decide) (fun b σ_1 => ?_)
    refine V_athrow hC dX1_post_33 ?_
    exact VT_outS (by decide) rfl
  · intro k hk
    refine V_if_eq (tgt := 26) hC dX1_post_13 (by decide) ?_ ?_
    · refine V_clr [0, 1, 2] (ls' := [none, none, none]) rfl ?_
      exact hk
    · refine V_iload_n hC dX1_post_16 rfl ?_
      refine V_i2l hC dX1_post_17 ?_
      refine V_lconst (v := 0) hC dX1_post_18 rfl ?_
      refine V_lconst (v := 1) hC dX1_post_19 rfl ?_
      refine V_callS_PI (As := [.long (Int32.toInt64 x2), .long 0, .long 1]) (rest := []) (d' := 0) hC dX1_post_20 3 (lw_S q285 q286 q85 q287) (by decide +kernel) rfl rfl (Nat.le_of_ble_eq_true rfl) (Nat.le_trans (by decide) hd) (by decide) vMX_l (fun _ h => c_X1_in (Nat.le_refl _) h) (fun r_1 => ?_)
      refine V_if_ne (tgt := 34) hC dX1_post_23 (by decide) ?_ ?_
      · refine V_iload_n hC dX1_post_34 rfl ?_
        refine V_if_ne (tgt := 47) hC dX1_post_35 (by decide) ?_ ?_
        · refine V_aload_n hC dX1_post_47 rfl ?_
          refine g_X1_128 hC dX1_post_48 ?_
          refine V_iload_n hC dX1_post_51 rfl ?_
          refine V_callS_PI (As := [.int (gi σ a0 10), .int x1]) (rest := []) (d' := 0) hC dX1_post_52 2 (lw_S q974 q893 q85 q894) (by decide +kernel) rfl rfl (Nat.le_of_ble_eq_true rfl) (Nat.le_trans (by decide) hd) (by decide) vMX_l (fun _ h => c_X1_has (Nat.le_refl _) h) (fun r_2 => ?_)
          refine V_if_eq (tgt := 62) hC dX1_post_55 (by decide) ?_ ?_
          · refine V_iconst (v := 0) hC dX1_post_62 rfl ?_
            exact V_xireturn dX1_post_63 rfl
          · refine V_iconst (v := 1) hC dX1_post_58 rfl ?_
            refine V_goto (tgt := 63) hC dX1_post_59 (by decide) ?_
            exact V_xireturn dX1_post_63 rfl
        · refine V_aload_n hC dX1_post_38 rfl ?_
          refine g_X1_35 hC dX1_post_39 (fun b_1 => ?_)
          refine V_iload_n hC dX1_post_42 rfl ?_
          refine V_iald hC dX1_post_43 ?_
          refine V_goto (tgt := 63) hC dX1_post_44 (by decide) ?_
          exact V_xireturn dX1_post_63 rfl
      · refine V_clr [0, 1, 2] (ls' := [none, none, none]) rfl ?_
        exact hk
theorem c_X1_post {l : Launch} {d : Nat} (hd : 5 ≤ d) (h0 : l.stackTraces = false) {σ : vMem} {a0 : Nat} {x1 : Int32} {x2 : Int32} {r : (Int32 × vMem) ⊕ (Nat × vMem)} (h : f_X1_post σ a0 x1 x2 = some r) : vOx l yX1_post (ws_ yX1_post cX1_post 3 (some .int)) d [.ref a0, .int x1, .int x2] σ (xI r) := V_xmethod (em := xI) [some (.ref a0), some (.int x1), some (.int x2)] (by decide +kernel) rfl (Nat.le_of_ble_eq_true rfl) (w_X1_post hd h0 σ a0 x1 x2) h
/-! NobodyBeenAftLaw.post(LNobodyBeenAft;II[J)I -/
def f_X0_post (σ : vMem) (a0 : Nat) (x1 : Int32) (x2 : Int32) (a3 : Nat) : Option (Int32 × vMem) := cko σ a0 [1] (bx (f_X1_post σ a0 x1 x2) (fun r σ_1 => cka σ_1 a3 106 0 (vl (sl σ_1 a3 (Int32.toNatClampNeg 0) (Int32.toInt64 r)) (fun σ_3 => some (0, σ_3)))) (fun b σ_2 => cko σ_2 b [17] (some (1, σ_2))))
abbrev P_X0_post (l : Launch) (d n0 s0 : Nat) : vX → Prop := vMX l yX0_post cX0_post 5 (some .int) [(0, 10, 13, 13)] d n0 s0
theorem w_X0_post {l : Launch} {d n0 s0 : Nat} (hd : 6 ≤ d) (h0 : l.stackTraces = false) (σ : vMem) (a0 : Nat) (x1 : Int32) (x2 : Int32) (a3 : Nat) : V (P_X0_post l d n0 s0) nxI σ 0 [some (.ref a0), some (.int x1), some (.int x2), some (.ref a3), none] [] (f_X0_post σ a0 x1 x2 a3) := by
  have hC : vPx (P_X0_post l d n0 s0) cX0_post 5 "NobodyBeenAftLaw" (some .int) d := vMX_cx
  refine V_eq (f_X0_post.eq_1 ..) ?_
  refine V_aload_n hC dX0_post_0 rfl ?_
  refine V_iconst (v := 0) hC dX0_post_1 rfl ?_
  refine V_aload_n hC dX0_post_2 rfl ?_
  refine V_iload_n hC dX0_post_3 rfl ?_
  refine V_iload_n hC dX0_post_4 rfl ?_
  refine V_cko (fun hm => V_xcallV_I (c := 1) (As := [.int x1, .int x2]) (rest := [.int 0, .ref a3]) (d' := 5) hC dX0_post_5 2 (lw_V q1220 q1221 q1222 q85 q1223) (by decide +kernel) (List.mem_singleton.mp hm) (by decide) (by decide) rfl rfl rfl (Nat.le_of_ble_eq_true rfl) (Nat.le_trans (by decide) hd) (by decide) vMX_l (fun _ h => c_X1_post (Nat.le_refl _) h0 h) (fun r σ_1 => ?_) (fun b σ_2 => ?_))
  · refine V_i2l hC dX0_post_8 ?_
    refine V_last hC dX0_post_9 (fun σ_3 => ?_)
    refine V_goto (tgt := 17) hC dX0_post_10 (by decide) ?_
    refine V_iconst (v := 0) hC dX0_post_17 rfl ?_
    exact V_xireturn dX0_post_18 rfl
  · refine VT_catch hC (by decide) (by decide) (by decide) (by decide) rfl q1219 q1226 ?_
    refine V_astore (ls' := [some (.ref a0), some (.int x1), some (.int x2), some (.ref a3), some (.ref b)]) hC dX0_post_13 (by decide) rfl rfl ?_
    refine V_iconst (v := 1) hC dX0_post_15 rfl ?_
    exact V_xireturn dX0_post_16 rfl
theorem c_X0_post {l : Launch} {d : Nat} (hd : 6 ≤ d) (h0 : l.stackTraces = false) {σ : vMem} {a0 : Nat} {x1 : Int32} {x2 : Int32} {a3 : Nat} {r : Int32 × vMem} (h : f_X0_post σ a0 x1 x2 a3 = some r) : vOx l yX0_post (wsW_ yX0_post cX0_post 5 (some .int) [(0, 10, 13, 13)]) d [.ref a0, .int x1, .int x2, .ref a3] σ (nxI r) := V_wmethod (em := nxI) (hh := [(0, 10, 13, 13)]) [some (.ref a0), some (.int x1), some (.int x2), some (.ref a3), none] (by decide +kernel) rfl (Nat.le_of_ble_eq_true rfl) (w_X0_post hd h0 σ a0 x1 x2 a3) h
/-! NobodyBeenAft.rock(II)I -/
def f_X1_rock (σ : vMem) (a0 : Nat) (x1 : Int32) (x2 : Int32) : Option ((Int32 × vMem) ⊕ (Nat × vMem)) := cko σ a0 [1] (bp (f_X1_in σ (Int32.toInt64 x1) 0 (Int32.toInt64 ((gi σ a0 11) - 1))) (fun r => vl (nw σ 17 6 (fun b σ_1 => cko σ_1 b [6, 17, 18] (some (.inr (b, σ_1))))) (fun k => if r = 0 then k else bp (f_X1_in σ (Int32.toInt64 x2) 0 1) (fun r_1 => if ¬ r_1 = 0 then (if ¬ x2 = 0 then (cko σ a0 [1] (dr (gr σ a0 6) (fun b_1 => cka σ b_1 105 x1 (some (.inl ((gi σ b_1 (Int32.toNatClampNeg x1)), σ)))))) else cko σ a0 [1] (dr (gr σ a0 5) (fun b_2 => cka σ b_2 105 x1 (some (.inl ((gi σ b_2 (Int32.toNatClampNeg x1)), σ)))))) else k))))
abbrev P_X1_rock (l : Launch) (d n0 s0 : Nat) : vX → Prop := vMX l yX1_rock cX1_rock 3 (some .int) [] d n0 s0
theorem w_X1_rock {l : Launch} {d n0 s0 : Nat} (hd : 5 ≤ d) (h0 : l.stackTraces = false) (σ : vMem) (a0 : Nat) (x1 : Int32) (x2 : Int32) : V (P_X1_rock l d n0 s0) xI σ 0 [some (.ref a0), some (.int x1), some (.int x2)] [] (f_X1_rock σ a0 x1 x2) := by
  have hC : vPx (P_X1_rock l d n0 s0) cX1_rock 3 "NobodyBeenAft" (some .int) d := vMX_cx
  refine V_eq (f_X1_rock.eq_1 ..) ?_
  refine V_iload_n hC dX1_rock_0 rfl ?_
  refine V_i2l hC dX1_rock_1 ?_
  refine V_lconst (v := 0) hC dX1_rock_2 rfl ?_
  refine V_aload_n hC dX1_rock_3 rfl ?_
  refine g_X1_139 hC dX1_rock_4 ?_
  refine V_iconst (v := 1) hC dX1_rock_7 rfl ?_
  refine V_isub hC dX1_rock_8 ?_
  refine V_i2l hC dX1_rock_9 ?_
  refine V_callS_PI (As := [.long (Int32.toInt64 x1), .long 0, .long (Int32.toInt64 ((gi σ a0 11) - 1))]) (rest := []) (d' := 0) hC dX1_rock_10 3 (lw_S q285 q286 q85 q287) (by decide +kernel) rfl rfl (Nat.le_of_ble_eq_true rfl) (Nat.le_trans (by decide) hd) (by decide) vMX_l (fun _ h => c_X1_in (Nat.le_refl _) h) (fun r => ?_)
  refine V_let (B := fun k => V (P_X1_rock l d n0 s0) xI σ 26 [none, none, none] [] (k)) ?_ ?_
  · skip
    refine V_nsee hC (Nat.le_trans (by decide) hd) (fun X hX => (congrArg Launch.stackTraces (vMX_l X hX)).trans h0) dX1_rock_26 dX1_rock_29 dX1_rock_30 (by decide) (fun b σ_1 => ?_)
    refine V_athrow hC dX1_rock_33 ?_
    exact VT_outS (by decide) rfl
  · intro k hk
    refine V_if_eq (tgt := 26) hC dX1_rock_13 (by decide) ?_ ?_
    · refine V_clr [0, 1, 2] (ls' := [none, none, none]) rfl ?_
      exact hk
    · refine V_iload_n hC dX1_rock_16 rfl ?_
      refine V_i2l hC dX1_rock_17 ?_
      refine V_lconst (v := 0) hC dX1_rock_18 rfl ?_
      refine V_lconst (v := 1) hC dX1_rock_19 rfl ?_
      refine V_callS_PI (As := [.long (Int32.toInt64 x2), .long 0, .long 1]) (rest := []) (d' := 0) hC dX1_rock_20 3 (lw_S q285 q286 q85 q287) (by decide +kernel) rfl rfl (Nat.le_of_ble_eq_true rfl) (Nat.le_trans (by decide) hd) (by decide) vMX_l (fun _ h => c_X1_in (Nat.le_refl _) h) (fun r_1 => ?_)
      refine V_if_ne (tgt := 34) hC dX1_rock_23 (by decide) ?_ ?_
      · refine V_iload_n hC dX1_rock_34 rfl ?_
        refine V_if_ne (tgt := 47) hC dX1_rock_35 (by decide) ?_ ?_
        · refine V_aload_n hC dX1_rock_47 rfl ?_
          refine g_X1_42 hC dX1_rock_48 (fun b_1 => ?_)
          refine V_iload_n hC dX1_rock_51 rfl ?_
          refine V_iald hC dX1_rock_52 ?_
          exact V_xireturn dX1_rock_53 rfl
        · refine V_aload_n hC dX1_rock_38 rfl ?_
          refine g_X1_39 hC dX1_rock_39 (fun b_2 => ?_)
          refine V_iload_n hC dX1_rock_42 rfl ?_
          refine V_iald hC dX1_rock_43 ?_
          refine V_goto (tgt := 53) hC dX1_rock_44 (by decide) ?_
          exact V_xireturn dX1_rock_53 rfl
      · refine V_clr [0, 1, 2] (ls' := [none, none, none]) rfl ?_
        exact hk
theorem c_X1_rock {l : Launch} {d : Nat} (hd : 5 ≤ d) (h0 : l.stackTraces = false) {σ : vMem} {a0 : Nat} {x1 : Int32} {x2 : Int32} {r : (Int32 × vMem) ⊕ (Nat × vMem)} (h : f_X1_rock σ a0 x1 x2 = some r) : vOx l yX1_rock (ws_ yX1_rock cX1_rock 3 (some .int)) d [.ref a0, .int x1, .int x2] σ (xI r) := V_xmethod (em := xI) [some (.ref a0), some (.int x1), some (.int x2)] (by decide +kernel) rfl (Nat.le_of_ble_eq_true rfl) (w_X1_rock hd h0 σ a0 x1 x2) h
/-! NobodyBeenAftLaw.rock(LNobodyBeenAft;II[J)I -/
def f_X0_rock (σ : vMem) (a0 : Nat) (x1 : Int32) (x2 : Int32) (a3 : Nat) : Option (Int32 × vMem) := cko σ a0 [1] (bx (f_X1_rock σ a0 x1 x2) (fun r σ_1 => cka σ_1 a3 106 0 (vl (sl σ_1 a3 (Int32.toNatClampNeg 0) (Int32.toInt64 r)) (fun σ_3 => some (0, σ_3)))) (fun b σ_2 => cko σ_2 b [17] (some (1, σ_2))))
abbrev P_X0_rock (l : Launch) (d n0 s0 : Nat) : vX → Prop := vMX l yX0_rock cX0_rock 5 (some .int) [(0, 10, 13, 13)] d n0 s0
theorem w_X0_rock {l : Launch} {d n0 s0 : Nat} (hd : 6 ≤ d) (h0 : l.stackTraces = false) (σ : vMem) (a0 : Nat) (x1 : Int32) (x2 : Int32) (a3 : Nat) : V (P_X0_rock l d n0 s0) nxI σ 0 [some (.ref a0), some (.int x1), some (.int x2), some (.ref a3), none] [] (f_X0_rock σ a0 x1 x2 a3) := by
  have hC : vPx (P_X0_rock l d n0 s0) cX0_rock 5 "NobodyBeenAftLaw" (some .int) d := vMX_cx
  refine V_eq (f_X0_rock.eq_1 ..) ?_
  refine V_aload_n hC dX0_rock_0 rfl ?_
  refine V_iconst (v := 0) hC dX0_rock_1 rfl ?_
  refine V_aload_n hC dX0_rock_2 rfl ?_
  refine V_iload_n hC dX0_rock_3 rfl ?_
  refine V_iload_n hC dX0_rock_4 rfl ?_
  refine V_cko (fun hm => V_xcallV_I (c := 1) (As := [.int x1, .int x2]) (rest := [.int 0, .ref a3]) (d' := 5) hC dX0_rock_5 2 (lw_V q1245 q1246 q1247 q85 q1248) (by decide +kernel) (List.mem_singleton.mp hm) (by decide) (by decide) rfl rfl rfl (Nat.le_of_ble_eq_true rfl) (Nat.le_trans (by decide) hd) (by decide) vMX_l (fun _ h => c_X1_rock (Nat.le_refl _) h0 h) (fun r σ_1 => ?_) (fun b σ_2 => ?_))
  · refine V_i2l hC dX0_rock_8 ?_
    refine V_last hC dX0_rock_9 (fun σ_3 => ?_)
    refine V_goto (tgt := 17) hC dX0_rock_10 (by decide) ?_
    refine V_iconst (v := 0) hC dX0_rock_17 rfl ?_
    exact V_xireturn dX0_rock_18 rfl
  · refine VT_catch hC (by decide) (by decide) (by decide) (by decide) rfl q1219 q1226 ?_
    refine V_astore (ls' := [some (.ref a0), some (.int x1), some (.int x2), some (.ref a3), some (.ref b)]) hC dX0_rock_13 (by decide) rfl rfl ?_
    refine V_iconst (v := 1) hC dX0_rock_15 rfl ?_
    exact V_xireturn dX0_rock_16 rfl
theorem c_X0_rock {l : Launch} {d : Nat} (hd : 6 ≤ d) (h0 : l.stackTraces = false) {σ : vMem} {a0 : Nat} {x1 : Int32} {x2 : Int32} {a3 : Nat} {r : Int32 × vMem} (h : f_X0_rock σ a0 x1 x2 a3 = some r) : vOx l yX0_rock (wsW_ yX0_rock cX0_rock 5 (some .int) [(0, 10, 13, 13)]) d [.ref a0, .int x1, .int x2, .ref a3] σ (nxI r) := V_wmethod (em := nxI) (hh := [(0, 10, 13, 13)]) [some (.ref a0), some (.int x1), some (.int x2), some (.ref a3), none] (by decide +kernel) rfl (Nat.le_of_ble_eq_true rfl) (w_X0_rock hd h0 σ a0 x1 x2 a3) h
/-! NobodyBeenAft.isMess(I)Z -/
def f_X1_isMess (σ : vMem) (a0 : Nat) (x1 : Int32) : Option (Int32) := cko σ a0 [1] (bp (f_X1_in σ (Int32.toInt64 x1) 0 (Int32.toInt64 ((gi σ a0 12) - 1))) (fun r => ck (narrow .boolean (.int r) = .int r) (some r)))
abbrev P_X1_isMess (l : Launch) (d n0 s0 : Nat) : vX → Prop := vMP l yX1_isMess cX1_isMess 2 (some .boolean) d n0 s0
theorem w_X1_isMess {l : Launch} {d n0 s0 : Nat} (hd : 1 ≤ d) (σ : vMem) (a0 : Nat) (x1 : Int32) : V (P_X1_isMess l d n0 s0) (vEmb (ePI σ)) σ 0 [some (.ref a0), some (.int x1)] [] (f_X1_isMess σ a0 x1) := by
  have hC : vPx (P_X1_isMess l d n0 s0) cX1_isMess 2 "NobodyBeenAft" (some .boolean) d := vMP_cx
  refine V_eq (f_X1_isMess.eq_1 ..) ?_
  refine V_iload_n hC dX1_isMess_0 rfl ?_
  refine V_i2l hC dX1_isMess_1 ?_
  refine V_lconst (v := 0) hC dX1_isMess_2 rfl ?_
  refine V_aload_n hC dX1_isMess_3 rfl ?_
  refine g_X1_87 hC dX1_isMess_4 ?_
  refine V_iconst (v := 1) hC dX1_isMess_7 rfl ?_
  refine V_isub hC dX1_isMess_8 ?_
  refine V_i2l hC dX1_isMess_9 ?_
  refine V_callS_PI (As := [.long (Int32.toInt64 x1), .long 0, .long (Int32.toInt64 ((gi σ a0 12) - 1))]) (rest := []) (d' := 0) hC dX1_isMess_10 3 (lw_S q285 q286 q85 q287) (by decide +kernel) rfl rfl (Nat.le_of_ble_eq_true rfl) (Nat.le_trans (by decide) hd) (by decide) vMP_l (fun _ h => c_X1_in (Nat.le_refl _) h) (fun r => ?_)
  exact V_ck (fun h9 => V_zreturn h9 dX1_isMess_13 rfl rfl)
theorem c_X1_isMess {l : Launch} {d : Nat} (hd : 1 ≤ d) {σ : vMem} {a0 : Nat} {x1 : Int32} {r : Int32} (h : f_X1_isMess σ a0 x1 = some r) : vOk l yX1_isMess cX1_isMess 2 (some .boolean) d [.ref a0, .int x1] σ (.inl (((ePI σ)).1 r, ((ePI σ)).2 r)) := V_method (em := (ePI σ)) [some (.ref a0), some (.int x1)] (by decide +kernel) rfl (Nat.le_of_ble_eq_true rfl) (w_X1_isMess hd σ a0 x1) h
/-! NobodyBeenAft.mess(II)I -/
def f_X1_mess (σ : vMem) (a0 : Nat) (x1 : Int32) (x2 : Int32) : Option ((Int32 × vMem) ⊕ (Nat × vMem)) := cko σ a0 [1] (bp (f_X1_isMess σ a0 x1) (fun r => vl (nw σ 17 6 (fun b σ_1 => cko σ_1 b [6, 17, 18] (some (.inr (b, σ_1))))) (fun k => if r = 0 then k else bp (f_X1_in σ (Int32.toInt64 x2) 0 2) (fun r_1 => if ¬ r_1 = 0 then (if ¬ x2 = 0 then (if ¬ x2 = 1 then (cko σ a0 [1] (dr (gr σ a0 0) (fun b_1 => cko σ b_1 [2] (dr (gr σ b_1 1) (fun b_2 => cka σ b_2 105 x1 (some (.inl ((gi σ b_2 (Int32.toNatClampNeg x1)), σ)))))))) else cko σ a0 [1] (dr (gr σ a0 7) (fun b_3 => cka σ b_3 105 x1 (some (.inl ((gi σ b_3 (Int32.toNatClampNeg x1)), σ)))))) else cko σ a0 [1] (dr (gr σ a0 0) (fun b_4 => cko σ b_4 [2] (dr (gr σ b_4 0) (fun b_5 => cka σ b_5 105 x1 (some (.inl ((gi σ b_5 (Int32.toNatClampNeg x1)), σ)))))))) else k))))
abbrev P_X1_mess (l : Launch) (d n0 s0 : Nat) : vX → Prop := vMX l yX1_mess cX1_mess 3 (some .int) [] d n0 s0
theorem w_X1_mess {l : Launch} {d n0 s0 : Nat} (hd : 5 ≤ d) (h0 : l.stackTraces = false) (σ : vMem) (a0 : Nat) (x1 : Int32) (x2 : Int32) : V (P_X1_mess l d n0 s0) xI σ 0 [some (.ref a0), some (.int x1), some (.int x2)] [] (f_X1_mess σ a0 x1 x2) := by
  have hC : vPx (P_X1_mess l d n0 s0) cX1_mess 3 "NobodyBeenAft" (some .int) d := vMX_cx
  refine V_eq (f_X1_mess.eq_1 ..) ?_
  refine V_aload_n hC dX1_mess_0 rfl ?_
  refine V_iload_n hC dX1_mess_1 rfl ?_
  refine V_cko (fun hm => V_callV_PI (c := 1) (As := [.int x1]) (rest := []) (d' := 1) hC dX1_mess_2 1 (lw_V q731 q733 qs12 q85 q734) (by decide +kernel) (List.mem_singleton.mp hm) (by decide) (by decide) rfl rfl rfl (Nat.le_of_ble_eq_true rfl) (Nat.le_trans (by decide) hd) (by decide) vMX_l (fun _ h => c_X1_isMess (Nat.le_refl _) h) (fun r => ?_))
  refine V_let (B := fun k => V (P_X1_mess l d n0 s0) xI σ 20 [none, none, none] [] (k)) ?_ ?_
  · skip
    refine V_nsee hC (Nat.le_trans (by decide) hd) (fun X hX => (congrArg Launch.stackTraces (vMX_l X hX)).trans h0) dX1_mess_20 dX1_mess_23 dX1_mess_24 (by decide) (fun b σ_1 => ?_)
    refine V_athrow hC dX1_mess_27 ?_
    exact VT_outS (by decide) rfl
  · intro k hk
    refine V_if_eq (tgt := 20) hC dX1_mess_5 (by decide) ?_ ?_
    · refine V_clr [0, 1, 2] (ls' := [none, none, none]) rfl ?_
      exact hk
    · refine V_iload_n hC dX1_mess_8 rfl ?_
      refine V_i2l hC dX1_mess_9 ?_
      refine V_lconst (v := 0) hC dX1_mess_10 rfl ?_
      refine V_ldc2 hC dX1_mess_11 q1149 ?_
      refine V_callS_PI (As := [.long (Int32.toInt64 x2), .long 0, .long 2]) (rest := []) (d' := 0) hC dX1_mess_14 3 (lw_S q285 q286 q85 q287) (by decide +kernel) rfl rfl (Nat.le_of_ble_eq_true rfl) (Nat.le_trans (by decide) hd) (by decide) vMX_l (fun _ h => c_X1_in (Nat.le_refl _) h) (fun r_1 => ?_)
      refine V_if_ne (tgt := 28) hC dX1_mess_17 (by decide) ?_ ?_
      · refine V_iload_n hC dX1_mess_28 rfl ?_
        refine V_if_ne (tgt := 44) hC dX1_mess_29 (by decide) ?_ ?_
        · refine V_iload_n hC dX1_mess_44 rfl ?_
          refine V_iconst (v := 1) hC dX1_mess_45 rfl ?_
          refine V_icmp_ne (tgt := 58) hC dX1_mess_46 (by decide) ?_ ?_
          · refine V_aload_n hC dX1_mess_58 rfl ?_
            refine g_X1_21 hC dX1_mess_59 (fun b_1 => ?_)
            refine g_X1_161 hC dX1_mess_62 (fun b_2 => ?_)
            refine V_iload_n hC dX1_mess_65 rfl ?_
            refine V_iald hC dX1_mess_66 ?_
            exact V_xireturn dX1_mess_67 rfl
          · refine V_aload_n hC dX1_mess_49 rfl ?_
            refine g_X1_45 hC dX1_mess_50 (fun b_3 => ?_)
            refine V_iload_n hC dX1_mess_53 rfl ?_
            refine V_iald hC dX1_mess_54 ?_
            refine V_goto (tgt := 67) hC dX1_mess_55 (by decide) ?_
            exact V_xireturn dX1_mess_67 rfl
        · refine V_aload_n hC dX1_mess_32 rfl ?_
          refine g_X1_21 hC dX1_mess_33 (fun b_4 => ?_)
          refine g_X1_158 hC dX1_mess_36 (fun b_5 => ?_)
          refine V_iload_n hC dX1_mess_39 rfl ?_
          refine V_iald hC dX1_mess_40 ?_
          refine V_goto (tgt := 67) hC dX1_mess_41 (by decide) ?_
          exact V_xireturn dX1_mess_67 rfl
      · refine V_clr [0, 1, 2] (ls' := [none, none, none]) rfl ?_
        exact hk
theorem c_X1_mess {l : Launch} {d : Nat} (hd : 5 ≤ d) (h0 : l.stackTraces = false) {σ : vMem} {a0 : Nat} {x1 : Int32} {x2 : Int32} {r : (Int32 × vMem) ⊕ (Nat × vMem)} (h : f_X1_mess σ a0 x1 x2 = some r) : vOx l yX1_mess (ws_ yX1_mess cX1_mess 3 (some .int)) d [.ref a0, .int x1, .int x2] σ (xI r) := V_xmethod (em := xI) [some (.ref a0), some (.int x1), some (.int x2)] (by decide +kernel) rfl (Nat.le_of_ble_eq_true rfl) (w_X1_mess hd h0 σ a0 x1 x2) h
/-! NobodyBeenAftLaw.mess(LNobodyBeenAft;II[J)I -/
def f_X0_mess (σ : vMem) (a0 : Nat) (x1 : Int32) (x2 : Int32) (a3 : Nat) : Option (Int32 × vMem) := cko σ a0 [1] (bx (f_X1_mess σ a0 x1 x2) (fun r σ_1 => cka σ_1 a3 106 0 (vl (sl σ_1 a3 (Int32.toNatClampNeg 0) (Int32.toInt64 r)) (fun σ_3 => some (0, σ_3)))) (fun b σ_2 => cko σ_2 b [17] (some (1, σ_2))))
abbrev P_X0_mess (l : Launch) (d n0 s0 : Nat) : vX → Prop := vMX l yX0_mess cX0_mess 5 (some .int) [(0, 10, 13, 13)] d n0 s0
theorem w_X0_mess {l : Launch} {d n0 s0 : Nat} (hd : 6 ≤ d) (h0 : l.stackTraces = false) (σ : vMem) (a0 : Nat) (x1 : Int32) (x2 : Int32) (a3 : Nat) : V (P_X0_mess l d n0 s0) nxI σ 0 [some (.ref a0), some (.int x1), some (.int x2), some (.ref a3), none] [] (f_X0_mess σ a0 x1 x2 a3) := by
  have hC : vPx (P_X0_mess l d n0 s0) cX0_mess 5 "NobodyBeenAftLaw" (some .int) d := vMX_cx
  refine V_eq (f_X0_mess.eq_1 ..) ?_
  refine V_aload_n hC dX0_mess_0 rfl ?_
  refine V_iconst (v := 0) hC dX0_mess_1 rfl ?_
  refine V_aload_n hC dX0_mess_2 rfl ?_
  refine V_iload_n hC dX0_mess_3 rfl ?_
  refine V_iload_n hC dX0_mess_4 rfl ?_
  refine V_cko (fun hm => V_xcallV_I (c := 1) (As := [.int x1, .int x2]) (rest := [.int 0, .ref a3]) (d' := 5) hC dX0_mess_5 2 (lw_V q1252 q1253 q1254 q85 q1255) (by decide +kernel) (List.mem_singleton.mp hm) (by decide) (by decide) rfl rfl rfl (Nat.le_of_ble_eq_true rfl) (Nat.le_trans (by decide) hd) (by decide) vMX_l (fun _ h => c_X1_mess (Nat.le_refl _) h0 h) (fun r σ_1 => ?_) (fun b σ_2 => ?_))
  · refine V_i2l hC dX0_mess_8 ?_
    refine V_last hC dX0_mess_9 (fun σ_3 => ?_)
    refine V_goto (tgt := 17) hC dX0_mess_10 (by decide) ?_
    refine V_iconst (v := 0) hC dX0_mess_17 rfl ?_
    exact V_xireturn dX0_mess_18 rfl
  · refine VT_catch hC (by decide) (by decide) (by decide) (by decide) rfl q1219 q1226 ?_
    refine V_astore (ls' := [some (.ref a0), some (.int x1), some (.int x2), some (.ref a3), some (.ref b)]) hC dX0_mess_13 (by decide) rfl rfl ?_
    refine V_iconst (v := 1) hC dX0_mess_15 rfl ?_
    exact V_xireturn dX0_mess_16 rfl
theorem c_X0_mess {l : Launch} {d : Nat} (hd : 6 ≤ d) (h0 : l.stackTraces = false) {σ : vMem} {a0 : Nat} {x1 : Int32} {x2 : Int32} {a3 : Nat} {r : Int32 × vMem} (h : f_X0_mess σ a0 x1 x2 a3 = some r) : vOx l yX0_mess (wsW_ yX0_mess cX0_mess 5 (some .int) [(0, 10, 13, 13)]) d [.ref a0, .int x1, .int x2, .ref a3] σ (nxI r) := V_wmethod (em := nxI) (hh := [(0, 10, 13, 13)]) [some (.ref a0), some (.int x1), some (.int x2), some (.ref a3), none] (by decide +kernel) rfl (Nat.le_of_ble_eq_true rfl) (w_X0_mess hd h0 σ a0 x1 x2 a3) h
/-! NobodyBeenAft.way(II)I -/
def f_X1_way (σ : vMem) (a0 : Nat) (x1 : Int32) (x2 : Int32) : Option ((Int32 × vMem) ⊕ (Nat × vMem)) := cko σ a0 [1] (dr (gr σ a0 0) (fun b => cko σ b [2] (bp (f_X1_in σ (Int32.toInt64 x1) 0 (Int32.toInt64 ((gi σ b 7) - 1))) (fun r => vl (nw σ 17 6 (fun b_1 σ_1 => cko σ_1 b_1 [6, 17, 18] (some (.inr (b_1, σ_1))))) (fun k => if r = 0 then k else bp (f_X1_in σ (Int32.toInt64 x2) 0 1) (fun r_1 => if ¬ r_1 = 0 then (if ¬ x2 = 0 then (cko σ a0 [1] (dr (gr σ a0 0) (fun b_2 => cko σ b_2 [2] (dr (gr σ b_2 3) (fun b_3 => cka σ b_3 105 x1 (some (.inl ((gi σ b_3 (Int32.toNatClampNeg x1)), σ)))))))) else cko σ a0 [1] (dr (gr σ a0 0) (fun b_4 => cko σ b_4 [2] (dr (gr σ b_4 2) (fun b_5 => cka σ b_5 105 x1 (cko σ a0 [1] (dr (gr σ a0 0) (fun b_6 => cko σ b_6 [2] (some (.inl (((gi σ b_5 (Int32.toNatClampNeg x1)) - (gi σ b_6 4)), σ))))))))))) else k))))))
abbrev P_X1_way (l : Launch) (d n0 s0 : Nat) : vX → Prop := vMX l yX1_way cX1_way 3 (some .int) [] d n0 s0
theorem w_X1_way {l : Launch} {d n0 s0 : Nat} (hd : 5 ≤ d) (h0 : l.stackTraces = false) (σ : vMem) (a0 : Nat) (x1 : Int32) (x2 : Int32) : V (P_X1_way l d n0 s0) xI σ 0 [some (.ref a0), some (.int x1), some (.int x2)] [] (f_X1_way σ a0 x1 x2) := by
  have hC : vPx (P_X1_way l d n0 s0) cX1_way 3 "NobodyBeenAft" (some .int) d := vMX_cx
  refine V_eq (f_X1_way.eq_1 ..) ?_
  refine V_iload_n hC dX1_way_0 rfl ?_
  refine V_i2l hC dX1_way_1 ?_
  refine V_lconst (v := 0) hC dX1_way_2 rfl ?_
  refine V_aload_n hC dX1_way_3 rfl ?_
  refine g_X1_21 hC dX1_way_4 (fun b => ?_)
  refine g_X1_209 hC dX1_way_7 ?_
  refine V_iconst (v := 1) hC dX1_way_10 rfl ?_
  refine V_isub hC dX1_way_11 ?_
  refine V_i2l hC dX1_way_12 ?_
  refine V_callS_PI (As := [.long (Int32.toInt64 x1), .long 0, .long (Int32.toInt64 ((gi σ b 7) - 1))]) (rest := []) (d' := 0) hC dX1_way_13 3 (lw_S q285 q286 q85 q287) (by decide +kernel) rfl rfl (Nat.le_of_ble_eq_true rfl) (Nat.le_trans (by decide) hd) (by decide) vMX_l (fun _ h => c_X1_in (Nat.le_refl _) h) (fun r => ?_)
  refine V_let (B := fun k => V (P_X1_way l d n0 s0) xI σ 29 [none, none, none] [] (k)) ?_ ?_
  · skip
    refine V_nsee hC (Nat.le_trans (by decide) hd) (fun X hX => (congrArg Launch.stackTraces (vMX_l X hX)).trans h0) dX1_way_29 dX1_way_32 dX1_way_33 (by decide) (fun b_1 σ_1 => ?_)
    refine V_athrow hC dX1_way_36 ?_
    exact VT_outS (by decide) rfl
  · intro k hk
    refine V_if_eq (tgt := 29) hC dX1_way_16 (by decide) ?_ ?_
    · refine V_clr [0, 1, 2] (ls' := [none, none, none]) rfl ?_
      exact hk
    · refine V_iload_n hC dX1_way_19 rfl ?_
      refine V_i2l hC dX1_way_20 ?_
      refine V_lconst (v := 0) hC dX1_way_21 rfl ?_
      refine V_lconst (v := 1) hC dX1_way_22 rfl ?_
      refine V_callS_PI (As := [.long (Int32.toInt64 x2), .long 0, .long 1]) (rest := []) (d' := 0) hC dX1_way_23 3 (lw_S q285 q286 q85 q287) (by decide +kernel) rfl rfl (Nat.le_of_ble_eq_true rfl) (Nat.le_trans (by decide) hd) (by decide) vMX_l (fun _ h => c_X1_in (Nat.le_refl _) h) (fun r_1 => ?_)
      refine V_if_ne (tgt := 37) hC dX1_way_26 (by decide) ?_ ?_
      · refine V_iload_n hC dX1_way_37 rfl ?_
        refine V_if_ne (tgt := 61) hC dX1_way_38 (by decide) ?_ ?_
        · refine V_aload_n hC dX1_way_61 rfl ?_
          refine g_X1_21 hC dX1_way_62 (fun b_2 => ?_)
          refine g_X1_217 hC dX1_way_65 (fun b_3 => ?_)
          refine V_iload_n hC dX1_way_68 rfl ?_
          refine V_iald hC dX1_way_69 ?_
          exact V_xireturn dX1_way_70 rfl
        · refine V_aload_n hC dX1_way_41 rfl ?_
          refine g_X1_21 hC dX1_way_42 (fun b_4 => ?_)
          refine g_X1_212 hC dX1_way_45 (fun b_5 => ?_)
          refine V_iload_n hC dX1_way_48 rfl ?_
          refine V_iald hC dX1_way_49 ?_
          refine V_aload_n hC dX1_way_50 rfl ?_
          refine g_X1_21 hC dX1_way_51 (fun b_6 => ?_)
          refine g_X1_215 hC dX1_way_54 ?_
          refine V_isub hC dX1_way_57 ?_
          refine V_goto (tgt := 70) hC dX1_way_58 (by decide) ?_
          exact V_xireturn dX1_way_70 rfl
      · refine V_clr [0, 1, 2] (ls' := [none, none, none]) rfl ?_
        exact hk
theorem c_X1_way {l : Launch} {d : Nat} (hd : 5 ≤ d) (h0 : l.stackTraces = false) {σ : vMem} {a0 : Nat} {x1 : Int32} {x2 : Int32} {r : (Int32 × vMem) ⊕ (Nat × vMem)} (h : f_X1_way σ a0 x1 x2 = some r) : vOx l yX1_way (ws_ yX1_way cX1_way 3 (some .int)) d [.ref a0, .int x1, .int x2] σ (xI r) := V_xmethod (em := xI) [some (.ref a0), some (.int x1), some (.int x2)] (by decide +kernel) rfl (Nat.le_of_ble_eq_true rfl) (w_X1_way hd h0 σ a0 x1 x2) h
/-! NobodyBeenAftLaw.way(LNobodyBeenAft;II[J)I -/
def f_X0_way (σ : vMem) (a0 : Nat) (x1 : Int32) (x2 : Int32) (a3 : Nat) : Option (Int32 × vMem) := cko σ a0 [1] (bx (f_X1_way σ a0 x1 x2) (fun r σ_1 => cka σ_1 a3 106 0 (vl (sl σ_1 a3 (Int32.toNatClampNeg 0) (Int32.toInt64 r)) (fun σ_3 => some (0, σ_3)))) (fun b σ_2 => cko σ_2 b [17] (some (1, σ_2))))
abbrev P_X0_way (l : Launch) (d n0 s0 : Nat) : vX → Prop := vMX l yX0_way cX0_way 5 (some .int) [(0, 10, 13, 13)] d n0 s0
theorem w_X0_way {l : Launch} {d n0 s0 : Nat} (hd : 6 ≤ d) (h0 : l.stackTraces = false) (σ : vMem) (a0 : Nat) (x1 : Int32) (x2 : Int32) (a3 : Nat) : V (P_X0_way l d n0 s0) nxI σ 0 [some (.ref a0), some (.int x1), some (.int x2), some (.ref a3), none] [] (f_X0_way σ a0 x1 x2 a3) := by
  have hC : vPx (P_X0_way l d n0 s0) cX0_way 5 "NobodyBeenAftLaw" (some .int) d := vMX_cx
  refine V_eq (f_X0_way.eq_1 ..) ?_
  refine V_aload_n hC dX0_way_0 rfl ?_
  refine V_iconst (v := 0) hC dX0_way_1 rfl ?_
  refine V_aload_n hC dX0_way_2 rfl ?_
  refine V_iload_n hC dX0_way_3 rfl ?_
  refine V_iload_n hC dX0_way_4 rfl ?_
  refine V_cko (fun hm => V_xcallV_I (c := 1) (As := [.int x1, .int x2]) (rest := [.int 0, .ref a3]) (d' := 5) hC dX0_way_5 2 (lw_V q1259 q1260 q1261 q85 q1262) (by decide +kernel) (List.mem_singleton.mp hm) (by decide) (by decide) rfl rfl rfl (Nat.le_of_ble_eq_true rfl) (Nat.le_trans (by decide) hd) (by decide) vMX_l (fun _ h => c_X1_way (Nat.le_refl _) h0 h) (fun r σ_1 => ?_) (fun b σ_2 => ?_))
  · refine V_i2l hC dX0_way_8 ?_
    refine V_last hC dX0_way_9 (fun σ_3 => ?_)
    refine V_goto (tgt := 17) hC dX0_way_10 (by decide) ?_
    refine V_iconst (v := 0) hC dX0_way_17 rfl ?_
    exact V_xireturn dX0_way_18 rfl
  · refine VT_catch hC (by decide) (by decide) (by decide) (by decide) rfl q1219 q1226 ?_
    refine V_astore (ls' := [some (.ref a0), some (.int x1), some (.int x2), some (.ref a3), some (.ref b)]) hC dX0_way_13 (by decide) rfl rfl ?_
    refine V_iconst (v := 1) hC dX0_way_15 rfl ?_
    exact V_xireturn dX0_way_16 rfl
theorem c_X0_way {l : Launch} {d : Nat} (hd : 6 ≤ d) (h0 : l.stackTraces = false) {σ : vMem} {a0 : Nat} {x1 : Int32} {x2 : Int32} {a3 : Nat} {r : Int32 × vMem} (h : f_X0_way σ a0 x1 x2 a3 = some r) : vOx l yX0_way (wsW_ yX0_way cX0_way 5 (some .int) [(0, 10, 13, 13)]) d [.ref a0, .int x1, .int x2, .ref a3] σ (nxI r) := V_wmethod (em := nxI) (hh := [(0, 10, 13, 13)]) [some (.ref a0), some (.int x1), some (.int x2), some (.ref a3), none] (by decide +kernel) rfl (Nat.le_of_ble_eq_true rfl) (w_X0_way hd h0 σ a0 x1 x2 a3) h
/-! NobodyBeenAft.row(I)J -/
def f_X1_row (σ : vMem) (a0 : Nat) (x1 : Int32) : Option ((Int64 × vMem) ⊕ (Nat × vMem)) := cko σ a0 [1] (bp (f_X1_in σ (Int32.toInt64 x1) 0 (Int32.toInt64 ((gi σ a0 18) - 1))) (fun r => if ¬ r = 0 then (cko σ a0 [1] (dr (gr σ a0 17) (fun b => cka σ b 106 x1 (some (.inl ((gl σ b (Int32.toNatClampNeg x1)), σ)))))) else nw σ 17 6 (fun b_1 σ_1 => cko σ_1 b_1 [6, 17, 18] (some (.inr (b_1, σ_1))))))
abbrev P_X1_row (l : Launch) (d n0 s0 : Nat) : vX → Prop := vMX l yX1_row cX1_row 2 (some .long) [] d n0 s0
theorem w_X1_row {l : Launch} {d n0 s0 : Nat} (hd : 5 ≤ d) (h0 : l.stackTraces = false) (σ : vMem) (a0 : Nat) (x1 : Int32) : V (P_X1_row l d n0 s0) xL σ 0 [some (.ref a0), some (.int x1)] [] (f_X1_row σ a0 x1) := by
  have hC : vPx (P_X1_row l d n0 s0) cX1_row 2 "NobodyBeenAft" (some .long) d := vMX_cx
  refine V_eq (f_X1_row.eq_1 ..) ?_
  refine V_iload_n hC dX1_row_0 rfl ?_
  refine V_i2l hC dX1_row_1 ?_
  refine V_lconst (v := 0) hC dX1_row_2 rfl ?_
  refine V_aload_n hC dX1_row_3 rfl ?_
  refine g_X1_84 hC dX1_row_4 ?_
  refine V_iconst (v := 1) hC dX1_row_7 rfl ?_
  refine V_isub hC dX1_row_8 ?_
  refine V_i2l hC dX1_row_9 ?_
  refine V_callS_PI (As := [.long (Int32.toInt64 x1), .long 0, .long (Int32.toInt64 ((gi σ a0 18) - 1))]) (rest := []) (d' := 0) hC dX1_row_10 3 (lw_S q285 q286 q85 q287) (by decide +kernel) rfl rfl (Nat.le_of_ble_eq_true rfl) (Nat.le_trans (by decide) hd) (by decide) vMX_l (fun _ h => c_X1_in (Nat.le_refl _) h) (fun r => ?_)
  refine V_if_ne (tgt := 24) hC dX1_row_13 (by decide) ?_ ?_
  · refine V_aload_n hC dX1_row_24 rfl ?_
    refine g_X1_56 hC dX1_row_25 (fun b => ?_)
    refine V_iload_n hC dX1_row_28 rfl ?_
    refine V_lald hC dX1_row_29 ?_
    exact V_xlreturn dX1_row_30 rfl
  · refine V_nsee hC (Nat.le_trans (by decide) hd) (fun X hX => (congrArg Launch.stackTraces (vMX_l X hX)).trans h0) dX1_row_16 dX1_row_19 dX1_row_20 (by decide) (fun b_1 σ_1 => ?_)
    refine V_athrow hC dX1_row_23 ?_
    exact VT_outS (by decide) rfl
theorem c_X1_row {l : Launch} {d : Nat} (hd : 5 ≤ d) (h0 : l.stackTraces = false) {σ : vMem} {a0 : Nat} {x1 : Int32} {r : (Int64 × vMem) ⊕ (Nat × vMem)} (h : f_X1_row σ a0 x1 = some r) : vOx l yX1_row (ws_ yX1_row cX1_row 2 (some .long)) d [.ref a0, .int x1] σ (xL r) := V_xmethod (em := xL) [some (.ref a0), some (.int x1)] (by decide +kernel) rfl (Nat.le_of_ble_eq_true rfl) (w_X1_row hd h0 σ a0 x1) h
/-! NobodyBeenAftLaw.row(LNobodyBeenAft;I[J)I -/
def f_X0_row (σ : vMem) (a0 : Nat) (x1 : Int32) (a2 : Nat) : Option (Int32 × vMem) := cko σ a0 [1] (bx (f_X1_row σ a0 x1) (fun r σ_1 => cka σ_1 a2 106 0 (vl (sl σ_1 a2 (Int32.toNatClampNeg 0) r) (fun σ_3 => some (0, σ_3)))) (fun b σ_2 => cko σ_2 b [17] (some (1, σ_2))))
abbrev P_X0_row (l : Launch) (d n0 s0 : Nat) : vX → Prop := vMX l yX0_row cX0_row 4 (some .int) [(0, 8, 11, 13)] d n0 s0
theorem w_X0_row {l : Launch} {d n0 s0 : Nat} (hd : 6 ≤ d) (h0 : l.stackTraces = false) (σ : vMem) (a0 : Nat) (x1 : Int32) (a2 : Nat) : V (P_X0_row l d n0 s0) nxI σ 0 [some (.ref a0), some (.int x1), some (.ref a2), none] [] (f_X0_row σ a0 x1 a2) := by
  have hC : vPx (P_X0_row l d n0 s0) cX0_row 4 "NobodyBeenAftLaw" (some .int) d := vMX_cx
  refine V_eq (f_X0_row.eq_1 ..) ?_
  refine V_aload_n hC dX0_row_0 rfl ?_
  refine V_iconst (v := 0) hC dX0_row_1 rfl ?_
  refine V_aload_n hC dX0_row_2 rfl ?_
  refine V_iload_n hC dX0_row_3 rfl ?_
  refine V_cko (fun hm => V_xcallV_L (c := 1) (As := [.int x1]) (rest := [.int 0, .ref a2]) (d' := 5) hC dX0_row_4 1 (lw_V q1266 q1267 q1268 q85 q1269) (by decide +kernel) (List.mem_singleton.mp hm) (by decide) (by decide) rfl rfl rfl (Nat.le_of_ble_eq_true rfl) (Nat.le_trans (by decide) hd) (by decide) vMX_l (fun _ h => c_X1_row (Nat.le_refl _) h0 h) (fun r σ_1 => ?_) (fun b σ_2 => ?_))
  · refine V_last hC dX0_row_7 (fun σ_3 => ?_)
    refine V_goto (tgt := 14) hC dX0_row_8 (by decide) ?_
    refine V_iconst (v := 0) hC dX0_row_14 rfl ?_
    exact V_xireturn dX0_row_15 rfl
  · refine VT_catch hC (by decide) (by decide) (by decide) (by decide) rfl q1219 q1226 ?_
    refine V_astore_n (ls' := [some (.ref a0), some (.int x1), some (.ref a2), some (.ref b)]) hC dX0_row_11 (by decide) rfl rfl ?_
    refine V_iconst (v := 1) hC dX0_row_12 rfl ?_
    exact V_xireturn dX0_row_13 rfl
theorem c_X0_row {l : Launch} {d : Nat} (hd : 6 ≤ d) (h0 : l.stackTraces = false) {σ : vMem} {a0 : Nat} {x1 : Int32} {a2 : Nat} {r : Int32 × vMem} (h : f_X0_row σ a0 x1 a2 = some r) : vOx l yX0_row (wsW_ yX0_row cX0_row 4 (some .int) [(0, 8, 11, 13)]) d [.ref a0, .int x1, .ref a2] σ (nxI r) := V_wmethod (em := nxI) (hh := [(0, 8, 11, 13)]) [some (.ref a0), some (.int x1), some (.ref a2), none] (by decide +kernel) rfl (Nat.le_of_ble_eq_true rfl) (w_X0_row hd h0 σ a0 x1 a2) h
/-! NobodyBeenAft$Watch.<init>()V -/
def f_X2_init (σ : vMem) (a0 : Nat) : Option (vMem) := nwa σ 105 8 (fun b σ_1 => cko σ_1 a0 [2] (vl (sr σ_1 a0 0 (some b)) (fun σ_2 => nwa σ_2 105 8 (fun b_1 σ_3 => cko σ_3 a0 [2] (vl (sr σ_3 a0 1 (some b_1)) (fun σ_4 => nwa σ_4 105 12 (fun b_2 σ_5 => cko σ_5 a0 [2] (vl (sr σ_5 a0 2 (some b_2)) (fun σ_6 => nwa σ_6 105 12 (fun b_3 σ_7 => cko σ_7 a0 [2] (vl (sr σ_7 a0 3 (some b_3)) (fun σ_8 => cko σ_8 a0 [2] (vl (si σ_8 a0 5 4) (fun σ_9 => cko σ_9 a0 [2] (vl (si σ_9 a0 8 (-1)) (fun σ_10 => some σ_10))))))))))))))))
abbrev P_X2_init (l : Launch) (d n0 s0 : Nat) : vX → Prop := vMP l yX2_init cX2_init 1 none d n0 s0
theorem w_X2_init {l : Launch} {d n0 s0 : Nat} (hd : 0 ≤ d) (σ : vMem) (a0 : Nat) : V (P_X2_init l d n0 s0) (vEmb eV) σ 0 [some (.ref a0)] [] (f_X2_init σ a0) := by
  have hC : vPx (P_X2_init l d n0 s0) cX2_init 1 "NobodyBeenAft$Watch" none d := vMP_cx
  refine V_eq (f_X2_init.eq_1 ..) ?_
  refine V_aload_n hC dX2_init_0 rfl ?_
  refine V_objInit hC dX2_init_1 q127 q120 q121 (Nat.le_of_ble_eq_true rfl) ?_
  refine V_aload_n hC dX2_init_4 rfl ?_
  refine V_bipush (v := 8) hC dX2_init_5 rfl ?_
  refine V_newa_int hC dX2_init_7 q172 (fun b σ_1 => ?_)
  refine p_X2_9 hC dX2_init_9 (fun X hX => (vMP_n X hX).trans rfl) (fun σ_2 => ?_)
  refine V_aload_n hC dX2_init_12 rfl ?_
  refine V_bipush (v := 8) hC dX2_init_13 rfl ?_
  refine V_newa_int hC dX2_init_15 q172 (fun b_1 σ_3 => ?_)
  refine p_X2_15 hC dX2_init_17 (fun X hX => (vMP_n X hX).trans rfl) (fun σ_4 => ?_)
  refine V_aload_n hC dX2_init_20 rfl ?_
  refine V_bipush (v := 12) hC dX2_init_21 rfl ?_
  refine V_newa_int hC dX2_init_23 q172 (fun b_2 σ_5 => ?_)
  refine p_X2_18 hC dX2_init_25 (fun X hX => (vMP_n X hX).trans rfl) (fun σ_6 => ?_)
  refine V_aload_n hC dX2_init_28 rfl ?_
  refine V_bipush (v := 12) hC dX2_init_29 rfl ?_
  refine V_newa_int hC dX2_init_31 q172 (fun b_3 σ_7 => ?_)
  refine p_X2_21 hC dX2_init_33 (fun X hX => (vMP_n X hX).trans rfl) (fun σ_8 => ?_)
  refine V_aload_n hC dX2_init_36 rfl ?_
  refine V_iconst (v := 4) hC dX2_init_37 rfl ?_
  refine p_X2_24 hC dX2_init_38 (fun σ_9 => ?_)
  refine V_aload_n hC dX2_init_41 rfl ?_
  refine V_iconst (v := (-1)) hC dX2_init_42 rfl ?_
  refine p_X2_28 hC dX2_init_43 (fun σ_10 => ?_)
  exact V_return dX2_init_46 rfl rfl
theorem c_X2_init {l : Launch} {d : Nat} (hd : 0 ≤ d) {σ : vMem} {a0 : Nat} {r : vMem} (h : f_X2_init σ a0 = some r) : vOk l yX2_init cX2_init 1 none d [.ref a0] σ (.inl ((eV).1 r, (eV).2 r)) := V_method (em := eV) [some (.ref a0)] (by decide +kernel) rfl (Nat.le_of_ble_eq_true rfl) (w_X2_init hd σ a0) h
/-! NobodyBeenAft.<init>()V -/
def f_X1_init_154 (a0 : Nat) : Nat → vMem → Int32 → Option (vMem)
  | 0, _, _ => none
  | n + 1, σ_35, v1 => if 15 ≤ v1 then (some σ_35) else cko σ_35 a0 [1] (dr (gr σ_35 a0 3) (fun b_15 => nw σ_35 2 9 (fun b_16 σ_36 => bv (f_X2_init σ_36 b_16) (fun σ_37 => cko σ_37 b_16 [2] (cka σ_37 b_15 110 v1 (vl (sr σ_37 b_15 (Int32.toNatClampNeg v1) (some b_16)) (fun σ_38 => vl (v1 + 1) (fun v1_1 => f_X1_init_154 a0 n σ_38 v1_1))))))))
def f_X1_init (σ : vMem) (a0 : Nat) : Option (vMem) := nw σ 2 9 (fun b σ_1 => bv (f_X2_init σ_1 b) (fun σ_2 => cko σ_2 a0 [1] (vl (sr σ_2 a0 0 (some b)) (fun σ_3 => nw σ_3 2 9 (fun b_1 σ_4 => bv (f_X2_init σ_4 b_1) (fun σ_5 => cko σ_5 a0 [1] (vl (sr σ_5 a0 1 (some b_1)) (fun σ_6 => nw σ_6 2 9 (fun b_2 σ_7 => bv (f_X2_init σ_7 b_2) (fun σ_8 => cko σ_8 a0 [1] (vl (sr σ_8 a0 2 (some b_2)) (fun σ_9 => nwa σ_9 110 15 (fun b_3 σ_10 => cko σ_10 a0 [1] (vl (sr σ_10 a0 3 (some b_3)) (fun σ_11 => nwa σ_11 105 10 (fun b_4 σ_12 => cko σ_12 a0 [1] (vl (sr σ_12 a0 4 (some b_4)) (fun σ_13 => nwa σ_13 105 16 (fun b_5 σ_14 => cko σ_14 a0 [1] (vl (sr σ_14 a0 5 (some b_5)) (fun σ_15 => nwa σ_15 105 16 (fun b_6 σ_16 => cko σ_16 a0 [1] (vl (sr σ_16 a0 6 (some b_6)) (fun σ_17 => nwa σ_17 105 8 (fun b_7 σ_18 => cko σ_18 a0 [1] (vl (sr σ_18 a0 7 (some b_7)) (fun σ_19 => cko σ_19 a0 [1] (vl (si σ_19 a0 8 2) (fun σ_20 => nwa σ_20 102 80 (fun b_8 σ_21 => cko σ_21 a0 [1] (vl (sr σ_21 a0 15 (some b_8)) (fun σ_22 => nwa σ_22 106 40 (fun b_9 σ_23 => cko σ_23 a0 [1] (vl (sr σ_23 a0 17 (some b_9)) (fun σ_24 => nwm σ_24 112 105 8 1585 (fun b_10 σ_25 => cko σ_25 a0 [1] (vl (sr σ_25 a0 21 (some b_10)) (fun σ_26 => nwa σ_26 105 25 (fun b_11 σ_27 => cko σ_27 a0 [1] (vl (sr σ_27 a0 22 (some b_11)) (fun σ_28 => nwm σ_28 113 106 25 9 (fun b_12 σ_29 => cko σ_29 a0 [1] (vl (sr σ_29 a0 25 (some b_12)) (fun σ_30 => nwm σ_30 114 101 25 9 (fun b_13 σ_31 => cko σ_31 a0 [1] (vl (sr σ_31 a0 26 (some b_13)) (fun σ_32 => nwa σ_32 111 3 (fun b_14 σ_33 => cko σ_33 a0 [1] (vl (sr σ_33 a0 27 (some b_14)) (fun σ_34 => f_X1_init_154 a0 FU σ_34 0))))))))))))))))))))))))))))))))))))))))))))))))))
abbrev P_X1_init (l : Launch) (d n0 s0 : Nat) : vX → Prop := vMP l yX1_init cX1_init 2 none d n0 s0
theorem w_X1_init_154 {l : Launch} {d n0 s0 : Nat} (hd : 1 ≤ d) (a0 : Nat)  : ∀ (n : Nat) (σ_35 : vMem) (v1 : Int32), V (P_X1_init l d n0 s0) (vEmb eV) σ_35 154 [some (.ref a0), some (.int v1)] [] (f_X1_init_154 a0 n σ_35 v1) := by
  have hC : vPx (P_X1_init l d n0 s0) cX1_init 2 "NobodyBeenAft" none d := vMP_cx
  intro n
  induction n with
  | zero =>
    intro σ_35 v1
    exact V_none
  | succ n ih =>
    intro σ_35 v1
    refine V_eq (f_X1_init_154.eq_2 ..) ?_
    refine V_iload_n hC dX1_init_154 rfl ?_
    refine V_bipush (v := 15) hC dX1_init_155 rfl ?_
    refine V_icmp_ge (tgt := 179) hC dX1_init_157 (by decide) ?_ ?_
    · exact V_return dX1_init_179 rfl rfl
    · refine V_aload_n hC dX1_init_160 rfl ?_
      refine g_X1_31 hC dX1_init_161 (fun b_15 => ?_)
      refine V_iload_n hC dX1_init_164 rfl ?_
      refine V_new (c := 2) hC dX1_init_165 q122 q123 q86 rfl (by decide) in_X2 tyX2 tyX2_ok (by decide +kernel) (fun b_16 σ_36 => ?_)
      refine V_dup hC dX1_init_168 rfl ?_
      refine V_callIN_V (As := []) (rest := [.ref b_16, .int v1, .ref b_15]) (d' := 0) hC dX1_init_169 0 q126 q86 q124 q125 rfl rfl (by decide +kernel) rfl rfl (Nat.le_of_ble_eq_true rfl) (Nat.le_trans (by decide) hd) (by decide) vMP_l (fun _ h => c_X2_init (Nat.le_refl _) h) (fun σ_37 => ?_)
      refine V_astq (k := 110) (t0 := 6) (c := 2) hC dX1_init_172 (by decide) (by decide) (by decide) (fun _ => rfl) rfl (fun σ_38 => ?_)
      refine V_iincL (v := v1 + 1) (ls' := fun v1_1 => [some (.ref a0), some (.int v1_1)]) hC dX1_init_173 rfl (by decide) rfl rfl (fun _ => rfl) (fun v1_1 => ?_)
      refine V_goto (tgt := 154) hC dX1_init_176 (by decide) ?_
      exact ih σ_38 v1_1
theorem w_X1_init {l : Launch} {d n0 s0 : Nat} (hd : 1 ≤ d) (σ : vMem) (a0 : Nat) : V (P_X1_init l d n0 s0) (vEmb eV) σ 0 [some (.ref a0), none] [] (f_X1_init σ a0) := by
  have hC : vPx (P_X1_init l d n0 s0) cX1_init 2 "NobodyBeenAft" none d := vMP_cx
  refine V_eq (f_X1_init.eq_1 ..) ?_
  refine V_aload_n hC dX1_init_0 rfl ?_
  refine V_objInit hC dX1_init_1 q119 q120 q121 (Nat.le_of_ble_eq_true rfl) ?_
  refine V_aload_n hC dX1_init_4 rfl ?_
  refine V_new (c := 2) hC dX1_init_5 q122 q123 q86 rfl (by decide) in_X2 tyX2 tyX2_ok (by decide +kernel) (fun b σ_1 => ?_)
  refine V_dup hC dX1_init_8 rfl ?_
  refine V_callIN_V (As := []) (rest := [.ref b, .ref a0]) (d' := 0) hC dX1_init_9 0 q126 q86 q124 q125 rfl rfl (by decide +kernel) rfl rfl (Nat.le_of_ble_eq_true rfl) (Nat.le_trans (by decide) hd) (by decide) vMP_l (fun _ h => c_X2_init (Nat.le_refl _) h) (fun σ_2 => ?_)
  refine p_X1_21 hC dX1_init_12 (fun X hX => (vMP_n X hX).trans rfl) (fun σ_3 => ?_)
  refine V_aload_n hC dX1_init_15 rfl ?_
  refine V_new (c := 2) hC dX1_init_16 q122 q123 q86 rfl (by decide) in_X2 tyX2 tyX2_ok (by decide +kernel) (fun b_1 σ_4 => ?_)
  refine V_dup hC dX1_init_19 rfl ?_
  refine V_callIN_V (As := []) (rest := [.ref b_1, .ref a0]) (d' := 0) hC dX1_init_20 0 q126 q86 q124 q125 rfl rfl (by decide +kernel) rfl rfl (Nat.le_of_ble_eq_true rfl) (Nat.le_trans (by decide) hd) (by decide) vMP_l (fun _ h => c_X2_init (Nat.le_refl _) h) (fun σ_5 => ?_)
  refine p_X1_25 hC dX1_init_23 (fun X hX => (vMP_n X hX).trans rfl) (fun σ_6 => ?_)
  refine V_aload_n hC dX1_init_26 rfl ?_
  refine V_new (c := 2) hC dX1_init_27 q122 q123 q86 rfl (by decide) in_X2 tyX2 tyX2_ok (by decide +kernel) (fun b_2 σ_7 => ?_)
  refine V_dup hC dX1_init_30 rfl ?_
  refine V_callIN_V (As := []) (rest := [.ref b_2, .ref a0]) (d' := 0) hC dX1_init_31 0 q126 q86 q124 q125 rfl rfl (by decide +kernel) rfl rfl (Nat.le_of_ble_eq_true rfl) (Nat.le_trans (by decide) hd) (by decide) vMP_l (fun _ h => c_X2_init (Nat.le_refl _) h) (fun σ_8 => ?_)
  refine p_X1_28 hC dX1_init_34 (fun X hX => (vMP_n X hX).trans rfl) (fun σ_9 => ?_)
  refine V_aload_n hC dX1_init_37 rfl ?_
  refine V_bipush (v := 15) hC dX1_init_38 rfl ?_
  refine V_newqC (t0 := 6) hC dX1_init_40 q122 (by simp [vOver]) (by decide) (fun _ => rfl) (fun b_3 σ_10 => ?_)
  refine p_X1_31 hC dX1_init_43 (fun X hX => (vMP_n X hX).trans rfl) (fun σ_11 => ?_)
  refine V_aload_n hC dX1_init_46 rfl ?_
  refine V_bipush (v := 10) hC dX1_init_47 rfl ?_
  refine V_newa_int hC dX1_init_49 q172 (fun b_4 σ_12 => ?_)
  refine p_X1_35 hC dX1_init_51 (fun X hX => (vMP_n X hX).trans rfl) (fun σ_13 => ?_)
  refine V_aload_n hC dX1_init_54 rfl ?_
  refine V_bipush (v := 16) hC dX1_init_55 rfl ?_
  refine V_newa_int hC dX1_init_57 q172 (fun b_5 σ_14 => ?_)
  refine p_X1_39 hC dX1_init_59 (fun X hX => (vMP_n X hX).trans rfl) (fun σ_15 => ?_)
  refine V_aload_n hC dX1_init_62 rfl ?_
  refine V_bipush (v := 16) hC dX1_init_63 rfl ?_
  refine V_newa_int hC dX1_init_65 q172 (fun b_6 σ_16 => ?_)
  refine p_X1_42 hC dX1_init_67 (fun X hX => (vMP_n X hX).trans rfl) (fun σ_17 => ?_)
  refine V_aload_n hC dX1_init_70 rfl ?_
  refine V_bipush (v := 8) hC dX1_init_71 rfl ?_
  refine V_newa_int hC dX1_init_73 q172 (fun b_7 σ_18 => ?_)
  refine p_X1_45 hC dX1_init_75 (fun X hX => (vMP_n X hX).trans rfl) (fun σ_19 => ?_)
  refine V_aload_n hC dX1_init_78 rfl ?_
  refine V_iconst (v := 2) hC dX1_init_79 rfl ?_
  refine p_X1_48 hC dX1_init_80 (fun σ_20 => ?_)
  refine V_aload_n hC dX1_init_83 rfl ?_
  refine V_bipush (v := 80) hC dX1_init_84 rfl ?_
  refine V_newa_byte hC dX1_init_86 q274 (fun b_8 σ_21 => ?_)
  refine p_X1_52 hC dX1_init_88 (fun X hX => (vMP_n X hX).trans rfl) (fun σ_22 => ?_)
  refine V_aload_n hC dX1_init_91 rfl ?_
  refine V_bipush (v := 40) hC dX1_init_92 rfl ?_
  refine V_newa_long hC dX1_init_94 q275 (fun b_9 σ_23 => ?_)
  refine p_X1_56 hC dX1_init_96 (fun X hX => (vMP_n X hX).trans rfl) (fun σ_24 => ?_)
  refine V_aload_n hC dX1_init_99 rfl ?_
  refine V_bipush (v := 8) hC dX1_init_100 rfl ?_
  refine V_sipush (v := 1585) hC dX1_init_102 rfl ?_
  refine V_multi_I hC dX1_init_105 q174 q172 (fun b_10 σ_25 => ?_)
  refine p_X1_62 hC dX1_init_109 (fun X hX => (vMP_n X hX).trans rfl) (fun σ_26 => ?_)
  refine V_aload_n hC dX1_init_112 rfl ?_
  refine V_bipush (v := 25) hC dX1_init_113 rfl ?_
  refine V_newa_int hC dX1_init_115 q172 (fun b_11 σ_27 => ?_)
  refine p_X1_65 hC dX1_init_117 (fun X hX => (vMP_n X hX).trans rfl) (fun σ_28 => ?_)
  refine V_aload_n hC dX1_init_120 rfl ?_
  refine V_bipush (v := 25) hC dX1_init_121 rfl ?_
  refine V_bipush (v := 9) hC dX1_init_123 rfl ?_
  refine V_multi_J hC dX1_init_125 q176 q275 (fun b_12 σ_29 => ?_)
  refine p_X1_70 hC dX1_init_129 (fun X hX => (vMP_n X hX).trans rfl) (fun σ_30 => ?_)
  refine V_aload_n hC dX1_init_132 rfl ?_
  refine V_bipush (v := 25) hC dX1_init_133 rfl ?_
  refine V_bipush (v := 9) hC dX1_init_135 rfl ?_
  refine V_multi_Z hC dX1_init_137 q178 q276 (fun b_13 σ_31 => ?_)
  refine p_X1_75 hC dX1_init_141 (fun X hX => (vMP_n X hX).trans rfl) (fun σ_32 => ?_)
  refine V_aload_n hC dX1_init_144 rfl ?_
  refine V_iconst (v := 3) hC dX1_init_145 rfl ?_
  refine V_newqC (t0 := 7) hC dX1_init_146 q180 (by simp [vOver]) (by decide) (fun _ => rfl) (fun b_14 σ_33 => ?_)
  refine p_X1_80 hC dX1_init_149 (fun X hX => (vMP_n X hX).trans rfl) (fun σ_34 => ?_)
  refine V_iconst (v := 0) hC dX1_init_152 rfl ?_
  refine V_istore_n (ls' := [some (.ref a0), some (.int 0)]) hC dX1_init_153 (by decide) rfl rfl ?_
  exact (w_X1_init_154 hd a0) FU σ_34 0
theorem c_X1_init {l : Launch} {d : Nat} (hd : 1 ≤ d) {σ : vMem} {a0 : Nat} {r : vMem} (h : f_X1_init σ a0 = some r) : vOk l yX1_init cX1_init 2 none d [.ref a0] σ (.inl ((eV).1 r, (eV).2 r)) := V_method (em := eV) [some (.ref a0), none] (by decide +kernel) rfl (Nat.le_of_ble_eq_true rfl) (w_X1_init hd σ a0) h
/-! NobodyBeenAft.sign(I)I -/
def f_X1_sign_16 (a0 : Nat) (x1 : Int32) (k : vMem → Option (Int32 × vMem)) : Nat → vMem → Int32 → Option (Int32 × vMem)
  | 0, _, _ => none
  | n + 1, σ_2, v2 => if v2 < 0 then (k σ_2) else cko σ_2 a0 [1] (dr (gr σ_2 a0 15) (fun b => cko σ_2 a0 [1] (cka σ_2 b 102 (gi σ_2 a0 16) (vl (si σ_2 b (Int32.toNatClampNeg (gi σ_2 a0 16)) (vp_nar .byte ((Int32.toInt8 (x1 >>> (v2 &&& 31))).toInt32))) (fun σ_3 => cko σ_3 a0 [1] (cko σ_3 a0 [1] (vl (si σ_3 a0 16 ((gi σ_3 a0 16) + 1)) (fun σ_4 => vl (v2 + (-8)) (fun v2_1 => f_X1_sign_16 a0 x1 k n σ_4 v2_1)))))))))
def f_X1_sign (σ : vMem) (a0 : Nat) (x1 : Int32) : Option (Int32 × vMem) := cko σ a0 [1] (if ((gi σ a0 16) + 4) ≤ 80 then (vl (fun (σ_1 : vMem) => cko σ_1 a0 [1] (some ((gi σ_1 a0 16), σ_1))) (fun k => f_X1_sign_16 a0 x1 k FU σ 24)) else some ((-1), σ))
abbrev P_X1_sign (l : Launch) (d n0 s0 : Nat) : vX → Prop := vMP l yX1_sign cX1_sign 3 (some .int) d n0 s0
theorem w_X1_sign_16 {l : Launch} {d n0 s0 : Nat} (hd : 0 ≤ d) (a0 : Nat) (x1 : Int32) (k : vMem → Option (Int32 × vMem)) (hk : ∀ (σ_1 : vMem), V (P_X1_sign l d n0 s0) (vEmb eI) σ_1 49 [some (.ref a0), none, none] [] (k σ_1)) : ∀ (n : Nat) (σ_2 : vMem) (v2 : Int32), V (P_X1_sign l d n0 s0) (vEmb eI) σ_2 16 [some (.ref a0), some (.int x1), some (.int v2)] [] (f_X1_sign_16 a0 x1 k n σ_2 v2) := by
  have hC : vPx (P_X1_sign l d n0 s0) cX1_sign 3 "NobodyBeenAft" (some .int) d := vMP_cx
  intro n
  induction n with
  | zero =>
    intro σ_2 v2
    exact V_none
  | succ n ih =>
    intro σ_2 v2
    refine V_eq (f_X1_sign_16.eq_2 ..) ?_
    refine V_iload_n hC dX1_sign_16 rfl ?_
    refine V_if_lt (tgt := 49) hC dX1_sign_17 (by decide) ?_ ?_
    · refine V_clr [1, 2] (ls' := [some (.ref a0), none, none]) rfl ?_
      exact hk σ_2
    · refine V_aload_n hC dX1_sign_20 rfl ?_
      refine g_X1_52 hC dX1_sign_21 (fun b => ?_)
      refine V_aload_n hC dX1_sign_24 rfl ?_
      refine g_X1_96 hC dX1_sign_25 ?_
      refine V_iload_n hC dX1_sign_28 rfl ?_
      refine V_iload_n hC dX1_sign_29 rfl ?_
      refine V_ishr hC dX1_sign_30 ?_
      refine V_i2b hC dX1_sign_31 ?_
      refine V_bast hC dX1_sign_32 (fun σ_3 => ?_)
      refine V_aload_n hC dX1_sign_33 rfl ?_
      refine V_dup hC dX1_sign_34 rfl ?_
      refine g_X1_96 hC dX1_sign_35 ?_
      refine V_iconst (v := 1) hC dX1_sign_38 rfl ?_
      refine V_iadd hC dX1_sign_39 ?_
      refine p_X1_96 hC dX1_sign_40 (fun σ_4 => ?_)
      refine V_iincL (v := v2 + (-8)) (ls' := fun v2_1 => [some (.ref a0), some (.int x1), some (.int v2_1)]) hC dX1_sign_43 rfl (by decide) rfl rfl (fun _ => rfl) (fun v2_1 => ?_)
      refine V_goto (tgt := 16) hC dX1_sign_46 (by decide) ?_
      exact ih σ_4 v2_1
theorem w_X1_sign {l : Launch} {d n0 s0 : Nat} (hd : 0 ≤ d) (σ : vMem) (a0 : Nat) (x1 : Int32) : V (P_X1_sign l d n0 s0) (vEmb eI) σ 0 [some (.ref a0), some (.int x1), none] [] (f_X1_sign σ a0 x1) := by
  have hC : vPx (P_X1_sign l d n0 s0) cX1_sign 3 "NobodyBeenAft" (some .int) d := vMP_cx
  refine V_eq (f_X1_sign.eq_1 ..) ?_
  refine V_aload_n hC dX1_sign_0 rfl ?_
  refine g_X1_96 hC dX1_sign_1 ?_
  refine V_iconst (v := 4) hC dX1_sign_4 rfl ?_
  refine V_iadd hC dX1_sign_5 ?_
  refine V_bipush (v := 80) hC dX1_sign_6 rfl ?_
  refine V_icmp_le (tgt := 13) hC dX1_sign_8 (by decide) ?_ ?_
  · refine V_bipush (v := 24) hC dX1_sign_13 rfl ?_
    refine V_istore_n (ls' := [some (.ref a0), some (.int x1), some (.int 24)]) hC dX1_sign_15 (by decide) rfl rfl ?_
    refine V_let (B := fun k => ∀ (σ_1 : vMem), V (P_X1_sign l d n0 s0) (vEmb eI) σ_1 49 [some (.ref a0), none, none] [] (k σ_1)) ?_ ?_
    · intro σ_1
      refine V_aload_n hC dX1_sign_49 rfl ?_
      refine g_X1_96 hC dX1_sign_50 ?_
      exact V_ireturn dX1_sign_53 rfl rfl
    · intro k hk
      exact (w_X1_sign_16 hd a0 x1 k hk) FU σ 24
  · refine V_iconst (v := (-1)) hC dX1_sign_11 rfl ?_
    exact V_ireturn dX1_sign_12 rfl rfl
theorem c_X1_sign {l : Launch} {d : Nat} (hd : 0 ≤ d) {σ : vMem} {a0 : Nat} {x1 : Int32} {r : Int32 × vMem} (h : f_X1_sign σ a0 x1 = some r) : vOk l yX1_sign cX1_sign 3 (some .int) d [.ref a0, .int x1] σ (.inl ((eI).1 r, (eI).2 r)) := V_method (em := eI) [some (.ref a0), some (.int x1), none] (by decide +kernel) rfl (Nat.le_of_ble_eq_true rfl) (w_X1_sign hd σ a0 x1) h
/-! NobodyBeenAft.end(I)Z -/
def f_X1_end (σ : vMem) (a0 : Nat) (x1 : Int32) : Option (Int32 × vMem) := cko σ a0 [1] (bp (f_X1_in σ (Int32.toInt64 x1) 0 (Int32.toInt64 (gi σ a0 16))) (fun r => if ¬ r = 0 then (cko σ a0 [1] (vl (si σ a0 16 x1) (fun σ_1 => some (1, σ_1)))) else some (0, σ)))
abbrev P_X1_end (l : Launch) (d n0 s0 : Nat) : vX → Prop := vMP l yX1_end cX1_end 2 (some .boolean) d n0 s0
theorem w_X1_end {l : Launch} {d n0 s0 : Nat} (hd : 1 ≤ d) (σ : vMem) (a0 : Nat) (x1 : Int32) : V (P_X1_end l d n0 s0) (vEmb eI) σ 0 [some (.ref a0), some (.int x1)] [] (f_X1_end σ a0 x1) := by
  have hC : vPx (P_X1_end l d n0 s0) cX1_end 2 "NobodyBeenAft" (some .boolean) d := vMP_cx
  refine V_eq (f_X1_end.eq_1 ..) ?_
  refine V_iload_n hC dX1_end_0 rfl ?_
  refine V_i2l hC dX1_end_1 ?_
  refine V_lconst (v := 0) hC dX1_end_2 rfl ?_
  refine V_aload_n hC dX1_end_3 rfl ?_
  refine g_X1_96 hC dX1_end_4 ?_
  refine V_i2l hC dX1_end_7 ?_
  refine V_callS_PI (As := [.long (Int32.toInt64 x1), .long 0, .long (Int32.toInt64 (gi σ a0 16))]) (rest := []) (d' := 0) hC dX1_end_8 3 (lw_S q285 q286 q85 q287) (by decide +kernel) rfl rfl (Nat.le_of_ble_eq_true rfl) (Nat.le_trans (by decide) hd) (by decide) vMP_l (fun _ h => c_X1_in (Nat.le_refl _) h) (fun r => ?_)
  refine V_if_ne (tgt := 16) hC dX1_end_11 (by decide) ?_ ?_
  · refine V_aload_n hC dX1_end_16 rfl ?_
    refine V_iload_n hC dX1_end_17 rfl ?_
    refine p_X1_96 hC dX1_end_18 (fun σ_1 => ?_)
    refine V_iconst (v := 1) hC dX1_end_21 rfl ?_
    exact V_zreturn rfl dX1_end_22 rfl rfl
  · refine V_iconst (v := 0) hC dX1_end_14 rfl ?_
    exact V_zreturn rfl dX1_end_15 rfl rfl
theorem c_X1_end {l : Launch} {d : Nat} (hd : 1 ≤ d) {σ : vMem} {a0 : Nat} {x1 : Int32} {r : Int32 × vMem} (h : f_X1_end σ a0 x1 = some r) : vOk l yX1_end cX1_end 2 (some .boolean) d [.ref a0, .int x1] σ (.inl ((eI).1 r, (eI).2 r)) := V_method (em := eI) [some (.ref a0), some (.int x1)] (by decide +kernel) rfl (Nat.le_of_ble_eq_true rfl) (w_X1_end hd σ a0 x1) h
/-! NobodyBeenAft$Ship.<init>()V -/
def f_X4_init (σ : vMem) (a0 : Nat) : Option (vMem) := nwa σ 105 10 (fun b σ_1 => cko σ_1 a0 [4] (vl (sr σ_1 a0 0 (some b)) (fun σ_2 => some σ_2)))
abbrev P_X4_init (l : Launch) (d n0 s0 : Nat) : vX → Prop := vMP l yX4_init cX4_init 1 none d n0 s0
theorem w_X4_init {l : Launch} {d n0 s0 : Nat} (hd : 0 ≤ d) (σ : vMem) (a0 : Nat) : V (P_X4_init l d n0 s0) (vEmb eV) σ 0 [some (.ref a0)] [] (f_X4_init σ a0) := by
  have hC : vPx (P_X4_init l d n0 s0) cX4_init 1 "NobodyBeenAft$Ship" none d := vMP_cx
  refine V_eq (f_X4_init.eq_1 ..) ?_
  refine V_aload_n hC dX4_init_0 rfl ?_
  refine V_objInit hC dX4_init_1 q298 q120 q121 (Nat.le_of_ble_eq_true rfl) ?_
  refine V_aload_n hC dX4_init_4 rfl ?_
  refine V_bipush (v := 10) hC dX4_init_5 rfl ?_
  refine V_newa_int hC dX4_init_7 q172 (fun b σ_1 => ?_)
  refine p_X4_9 hC dX4_init_9 (fun X hX => (vMP_n X hX).trans rfl) (fun σ_2 => ?_)
  exact V_return dX4_init_12 rfl rfl
theorem c_X4_init {l : Launch} {d : Nat} (hd : 0 ≤ d) {σ : vMem} {a0 : Nat} {r : vMem} (h : f_X4_init σ a0 = some r) : vOk l yX4_init cX4_init 1 none d [.ref a0] σ (.inl ((eV).1 r, (eV).2 r)) := V_method (em := eV) [some (.ref a0)] (by decide +kernel) rfl (Nat.le_of_ble_eq_true rfl) (w_X4_init hd σ a0) h
/-! NobodyBeenAft$Words.<init>([BII)V -/
def f_X5_init (σ : vMem) (a0 : Nat) (a1 : Nat) (x2 : Int32) (x3 : Int32) : Option (vMem) := cko σ a0 [5, 10, 11] (vl (sr σ a0 0 (some a1)) (fun σ_1 => cko σ_1 a0 [5, 10, 11] (vl (si σ_1 a0 1 x2) (fun σ_2 => cko σ_2 a0 [5, 10, 11] (vl (si σ_2 a0 2 (imin x2 x3)) (fun σ_3 => some σ_3))))))
abbrev P_X5_init (l : Launch) (d n0 s0 : Nat) : vX → Prop := vMP l yX5_init cX5_init 4 none d n0 s0
theorem w_X5_init {l : Launch} {d n0 s0 : Nat} (hd : 0 ≤ d) (σ : vMem) (a0 : Nat) (a1 : Nat) (x2 : Int32) (x3 : Int32) : V (P_X5_init l d n0 s0) (vEmb eV) σ 0 [some (.ref a0), some (.ref a1), some (.int x2), some (.int x3)] [] (f_X5_init σ a0 a1 x2 x3) := by
  have hC : vPx (P_X5_init l d n0 s0) cX5_init 4 "NobodyBeenAft$Words" none d := vMP_cx
  refine V_eq (f_X5_init.eq_1 ..) ?_
  refine V_aload_n hC dX5_init_0 rfl ?_
  refine V_objInit hC dX5_init_1 q325 q120 q121 (Nat.le_of_ble_eq_true rfl) ?_
  refine V_aload_n hC dX5_init_4 rfl ?_
  refine V_aload_n hC dX5_init_5 rfl ?_
  refine p_X5_9 hC dX5_init_6 (fun X hX => (vMP_n X hX).trans rfl) (fun σ_1 => ?_)
  refine V_aload_n hC dX5_init_9 rfl ?_
  refine V_iload_n hC dX5_init_10 rfl ?_
  refine p_X5_15 hC dX5_init_11 (fun X hX => (vMP_n X hX).trans rfl) (fun σ_2 => ?_)
  refine V_aload_n hC dX5_init_14 rfl ?_
  refine V_iload_n hC dX5_init_15 rfl ?_
  refine V_iload_n hC dX5_init_16 rfl ?_
  refine V_mmin hC dX5_init_17 q326 q327 q90 q328 (Nat.le_of_ble_eq_true rfl) ?_
  refine p_X5_25 hC dX5_init_20 (fun X hX => (vMP_n X hX).trans rfl) (fun σ_3 => ?_)
  exact V_return dX5_init_23 rfl rfl
theorem c_X5_init {l : Launch} {d : Nat} (hd : 0 ≤ d) {σ : vMem} {a0 : Nat} {a1 : Nat} {x2 : Int32} {x3 : Int32} {r : vMem} (h : f_X5_init σ a0 a1 x2 x3 = some r) : vOk l yX5_init cX5_init 4 none d [.ref a0, .ref a1, .int x2, .int x3] σ (.inl ((eV).1 r, (eV).2 r)) := V_method (em := eV) [some (.ref a0), some (.ref a1), some (.int x2), some (.int x3)] (by decide +kernel) rfl (Nat.le_of_ble_eq_true rfl) (w_X5_init hd σ a0 a1 x2 x3) h
/-! NobodyBeenAft.words(I)LNobodyBeenAft$Words; -/
def f_X1_words (σ : vMem) (a0 : Nat) (x1 : Int32) : Option (Nat × vMem) := nw σ 5 4 (fun b σ_1 => cko σ_1 a0 [1] (dr (gr σ_1 a0 15) (fun b_1 => cko σ_1 a0 [1] (bv (f_X5_init σ_1 b b_1 (gi σ_1 a0 16) x1) (fun σ_2 => cko σ_2 a0 [1] (vl (si σ_2 a0 16 0) (fun σ_3 => some (b, σ_3))))))))
abbrev P_X1_words (l : Launch) (d n0 s0 : Nat) : vX → Prop := vMP l yX1_words cX1_words 3 (some (.object "NobodyBeenAft$Words")) d n0 s0
theorem w_X1_words {l : Launch} {d n0 s0 : Nat} (hd : 1 ≤ d) (σ : vMem) (a0 : Nat) (x1 : Int32) : V (P_X1_words l d n0 s0) (vEmb eA) σ 0 [some (.ref a0), some (.int x1), none] [] (f_X1_words σ a0 x1) := by
  have hC : vPx (P_X1_words l d n0 s0) cX1_words 3 "NobodyBeenAft" (some (.object "NobodyBeenAft$Words")) d := vMP_cx
  refine V_eq (f_X1_words.eq_1 ..) ?_
  refine V_new (c := 5) hC dX1_words_0 q320 q321 q89 rfl (by decide) in_X5 tyX5 tyX5_ok (by decide +kernel) (fun b σ_1 => ?_)
  refine V_dup hC dX1_words_3 rfl ?_
  refine V_aload_n hC dX1_words_4 rfl ?_
  refine g_X1_52 hC dX1_words_5 (fun b_1 => ?_)
  refine V_aload_n hC dX1_words_8 rfl ?_
  refine g_X1_96 hC dX1_words_9 ?_
  refine V_iload_n hC dX1_words_12 rfl ?_
  refine V_callI_V (As := [.ref b_1, .int (gi σ_1 a0 16), .int x1]) (rest := [.ref b]) (d' := 0) hC dX1_words_13 3 q324 q89 q322 q323 rfl rfl (by decide +kernel) rfl rfl (Nat.le_of_ble_eq_true rfl) (Nat.le_trans (by decide) hd) (by decide) vMP_l (fun _ h => c_X5_init (Nat.le_refl _) h) (fun σ_2 => ?_)
  refine V_astore_n (ls' := [some (.ref a0), some (.int x1), some (.ref b)]) hC dX1_words_16 (by decide) rfl rfl ?_
  refine V_aload_n hC dX1_words_17 rfl ?_
  refine V_iconst (v := 0) hC dX1_words_18 rfl ?_
  refine p_X1_96 hC dX1_words_19 (fun σ_3 => ?_)
  refine V_aload_n hC dX1_words_22 rfl ?_
  exact V_areturnA (Or.inl ⟨_, rfl⟩) dX1_words_23 rfl rfl
theorem c_X1_words {l : Launch} {d : Nat} (hd : 1 ≤ d) {σ : vMem} {a0 : Nat} {x1 : Int32} {r : Nat × vMem} (h : f_X1_words σ a0 x1 = some r) : vOk l yX1_words cX1_words 3 (some (.object "NobodyBeenAft$Words")) d [.ref a0, .int x1] σ (.inl ((eA).1 r, (eA).2 r)) := V_method (em := eA) [some (.ref a0), some (.int x1), none] (by decide +kernel) rfl (Nat.le_of_ble_eq_true rfl) (w_X1_words hd σ a0 x1) h
/-! NobodyBeenAft$Words.here()I -/
def f_X5_here (σ : vMem) (a0 : Nat) : Option (Int32) := cko σ a0 [5, 10, 11] (cko σ a0 [5, 10, 11] (if (gi σ a0 2) ≤ (gi σ a0 3) then (some (-1)) else cko σ a0 [5, 10, 11] (dr (gr σ a0 0) (fun b => cko σ a0 [5, 10, 11] (cka σ b 102 (gi σ a0 3) (some ((gi σ b (Int32.toNatClampNeg (gi σ a0 3))) &&& 255)))))))
abbrev P_X5_here (l : Launch) (d n0 s0 : Nat) : vX → Prop := vMP l yX5_here cX5_here 1 (some .int) d n0 s0
theorem w_X5_here {l : Launch} {d n0 s0 : Nat} (hd : 0 ≤ d) (σ : vMem) (a0 : Nat) : V (P_X5_here l d n0 s0) (vEmb (ePI σ)) σ 0 [some (.ref a0)] [] (f_X5_here σ a0) := by
  have hC : vPx (P_X5_here l d n0 s0) cX5_here 1 "NobodyBeenAft$Words" (some .int) d := vMP_cx
  refine V_eq (f_X5_here.eq_1 ..) ?_
  refine V_aload_n hC dX5_here_0 rfl ?_
  refine g_X5_28 hC dX5_here_1 ?_
  refine V_aload_n hC dX5_here_4 rfl ?_
  refine g_X5_25 hC dX5_here_5 ?_
  refine V_icmp_ge (tgt := 27) hC dX5_here_8 (by decide) ?_ ?_
  · refine V_iconst (v := (-1)) hC dX5_here_27 rfl ?_
    exact V_ireturn dX5_here_28 rfl rfl
  · refine V_aload_n hC dX5_here_11 rfl ?_
    refine g_X5_9 hC dX5_here_12 (fun b => ?_)
    refine V_aload_n hC dX5_here_15 rfl ?_
    refine g_X5_28 hC dX5_here_16 ?_
    refine V_bald hC dX5_here_19 ?_
    refine V_sipush (v := 255) hC dX5_here_20 rfl ?_
    refine V_iand hC dX5_here_23 ?_
    refine V_goto (tgt := 28) hC dX5_here_24 (by decide) ?_
    exact V_ireturn dX5_here_28 rfl rfl
theorem c_X5_here {l : Launch} {d : Nat} (hd : 0 ≤ d) {σ : vMem} {a0 : Nat} {r : Int32} (h : f_X5_here σ a0 = some r) : vOk l yX5_here cX5_here 1 (some .int) d [.ref a0] σ (.inl (((ePI σ)).1 r, ((ePI σ)).2 r)) := V_method (em := (ePI σ)) [some (.ref a0)] (by decide +kernel) rfl (Nat.le_of_ble_eq_true rfl) (w_X5_here hd σ a0) h
/-! NobodyBeenAft$Words.need(Z)V -/
def f_X5_need (σ : vMem) (a0 : Nat) (x1 : Int32) : Option (vMem ⊕ (Nat × vMem)) := if ¬ x1 = 0 then (some (.inl σ)) else cko σ a0 [5, 10, 11] (ck (mn σ < SB) (vl (si (alc σ 6 7) (mn σ) 0 (gi σ a0 3)) (fun σ_1 => cko σ_1 (mn σ) [6, 17, 18] (some (.inr (mn σ, σ_1))))))
abbrev P_X5_need (l : Launch) (d n0 s0 : Nat) : vX → Prop := vMX l yX5_need cX5_need 2 none [] d n0 s0
theorem w_X5_need {l : Launch} {d n0 s0 : Nat} (hd : 4 ≤ d) (h0 : l.stackTraces = false) (σ : vMem) (a0 : Nat) (x1 : Int32) : V (P_X5_need l d n0 s0) xV σ 0 [some (.ref a0), some (.int x1)] [] (f_X5_need σ a0 x1) := by
  have hC : vPx (P_X5_need l d n0 s0) cX5_need 2 "NobodyBeenAft$Words" none d := vMX_cx
  refine V_eq (f_X5_need.eq_1 ..) ?_
  refine V_iload_n hC dX5_need_0 rfl ?_
  refine V_if_ne (tgt := 16) hC dX5_need_1 (by decide) ?_ ?_
  · exact V_xreturn dX5_need_16 rfl
  · refine V_fault0 hC (Nat.le_trans (by decide) hd) (fun X hX => (congrArg Launch.stackTraces (vMX_l X hX)).trans h0) dX5_need_4 dX5_need_7 dX5_need_8 dX5_need_9 dX5_need_12 dX5_need_15 rfl (by decide) (fun σ_1 => ?_)
    exact VT_outS (by decide) rfl
theorem c_X5_need {l : Launch} {d : Nat} (hd : 4 ≤ d) (h0 : l.stackTraces = false) {σ : vMem} {a0 : Nat} {x1 : Int32} {r : vMem ⊕ (Nat × vMem)} (h : f_X5_need σ a0 x1 = some r) : vOx l yX5_need (ws_ yX5_need cX5_need 2 none) d [.ref a0, .int x1] σ (xV r) := V_xmethod (em := xV) [some (.ref a0), some (.int x1)] (by decide +kernel) rfl (Nat.le_of_ble_eq_true rfl) (w_X5_need hd h0 σ a0 x1) h
/-! NobodyBeenAft$Words.digit(II)I -/
theorem k_X5_40 {α : Type} {P : vX → Prop} {emb : α → vRes} {cc : ByteArray} {nL : Nat} {ret : Option FieldType} {d : Nat} {σ : vMem} {pc : Nat} {ls : List (Option Value)} {st rest : List Value} {t0 : Option (Int32)} {f : Int32 → Option α} {l : Launch} {d' a : Nat} {As : List Value} (hC : vPx P cc nL "NobodyBeenAft$Words" ret d) (hdg : decode cc pc = .ok (.invokevirtual 40, 3)) (hm : knd σ a ∈ ([5, 10, 11] : List Nat)) (hn : As.length = 0) (hst : st = As.reverse ++ .ref a :: rest) (hroom : (rest.map fun v => v.category).sum ≤ 8) (hd : d' + 1 ≤ d) (hmL : (0 : Nat) ≤ 0) (hl : ∀ X, P X → X.l = l) (hM : ∀ r, t0 = some r → vOk l yX5_here cX5_here 1 (some .int) d' (.ref a :: As) σ (.inl ((ePI σ).1 r, (ePI σ).2 r))) (kk : ∀ x, V P emb σ (pc + 3) ls (.int x :: rest) (f x)) : V P emb σ pc ls st (bp t0 f) := by
  simp only [List.mem_cons, List.not_mem_nil, or_false] at hm
  rcases hm with hk | hk | hk
  · exact V_callV_PI (c := 5) hC hdg 0 (lw_V q374 q375 q376 q89 q380) (by decide +kernel) hk (by decide) (by decide) rfl hn hst hroom hd (by decide) hl hM kk
  · exact V_callU_PI (C := "NobodyBeenAft$Rule") (owner := "NobodyBeenAft$Words") (c := 10) hC hdg 0 (lw_app (List.forall_mem_cons.mpr ⟨q374, List.forall_mem_cons.mpr ⟨q377, List.forall_mem_cons.mpr ⟨q379, List.forall_mem_cons.mpr ⟨q375, List.forall_mem_cons.mpr ⟨q89, fun _ h => absurd h List.not_mem_nil⟩⟩⟩⟩⟩) (lw_meth q380)) rfl (by decide +kernel) hk (by decide) (by decide) rfl hn hst hroom hd (by decide) hl hM kk
  · exact V_callU_PI (C := "NobodyBeenAft$Log") (owner := "NobodyBeenAft$Words") (c := 11) hC hdg 0 (lw_app (List.forall_mem_cons.mpr ⟨q374, List.forall_mem_cons.mpr ⟨q377, List.forall_mem_cons.mpr ⟨q378, List.forall_mem_cons.mpr ⟨q375, List.forall_mem_cons.mpr ⟨q89, fun _ h => absurd h List.not_mem_nil⟩⟩⟩⟩⟩) (lw_meth q380)) rfl (by decide +kernel) hk (by decide) (by decide) rfl hn hst hroom hd (by decide) hl hM kk
theorem k_X5_36 {α : Type} {P : vX → Prop} {emb : α → vRes} {cc : ByteArray} {nL : Nat} {ret : Option FieldType} {d : Nat} {σ : vMem} {pc : Nat} {ls : List (Option Value)} {st rest : List Value} {t0 : Option (vMem ⊕ (Nat × vMem))} {f : vMem → Option α} {h : Nat → vMem → Option α} {l : Launch} {d' a : Nat} {As : List Value} (hC : vPx P cc nL "NobodyBeenAft$Words" ret d) (hdg : decode cc pc = .ok (.invokevirtual 36, 3)) (hm : knd σ a ∈ ([5, 10, 11] : List Nat)) (hn : As.length = 1) (hst : st = As.reverse ++ .ref a :: rest) (hroom : (rest.map fun v => v.category).sum ≤ 8) (hd : d' + 1 ≤ d) (hmL : (0 : Nat) ≤ 0) (hl : ∀ X, P X → X.l = l) (hM : ∀ r, t0 = some r → vOx l yX5_need (ws_ yX5_need cX5_need 2 none) d' (.ref a :: As) σ (xV r)) (kk : ∀ σ1, V P emb σ1 (pc + 3) ls rest (f σ1)) (kx : ∀ b σ1, VT P emb σ1 pc ls b (h b σ1)) : V P emb σ pc ls st (bxv t0 f h) := by
  simp only [List.mem_cons, List.not_mem_nil, or_false] at hm
  rcases hm with hk | hk | hk
  · exact V_xcallV_V (c := 5) hC hdg 1 (lw_V q382 q383 q384 q89 q388) (by decide +kernel) hk (by decide) (by decide) rfl hn hst hroom hd (by decide) hl hM kk kx
  · exact V_xcallU_V (C := "NobodyBeenAft$Rule") (owner := "NobodyBeenAft$Words") (c := 10) hC hdg 1 (lw_app (List.forall_mem_cons.mpr ⟨q382, List.forall_mem_cons.mpr ⟨q385, List.forall_mem_cons.mpr ⟨q387, List.forall_mem_cons.mpr ⟨q383, List.forall_mem_cons.mpr ⟨q89, fun _ h => absurd h List.not_mem_nil⟩⟩⟩⟩⟩) (lw_meth q388)) rfl (by decide +kernel) hk (by decide) (by decide) rfl hn hst hroom hd (by decide) hl hM kk kx
  · exact V_xcallU_V (C := "NobodyBeenAft$Log") (owner := "NobodyBeenAft$Words") (c := 11) hC hdg 1 (lw_app (List.forall_mem_cons.mpr ⟨q382, List.forall_mem_cons.mpr ⟨q385, List.forall_mem_cons.mpr ⟨q386, List.forall_mem_cons.mpr ⟨q383, List.forall_mem_cons.mpr ⟨q89, fun _ h => absurd h List.not_mem_nil⟩⟩⟩⟩⟩) (lw_meth q388)) rfl (by decide +kernel) hk (by decide) (by decide) rfl hn hst hroom hd (by decide) hl hM kk kx
def f_X5_digit (σ : vMem) (a0 : Nat) (x1 : Int32) (x2 : Int32) : Option ((Int32 × vMem) ⊕ (Nat × vMem)) := cko σ a0 [5, 10, 11] (bp (f_X5_here σ a0) (fun r => bp (f_X1_in σ (Int32.toInt64 r) (Int32.toInt64 (48 + x1)) (Int32.toInt64 (48 + x2))) (fun r_1 => cko σ a0 [5, 10, 11] (bxv (f_X5_need σ a0 r_1) (fun σ_1 => cko σ_1 a0 [5, 10, 11] (cko σ_1 a0 [5, 10, 11] (vl (si σ_1 a0 3 ((gi σ_1 a0 3) + 1)) (fun σ_3 => cko σ_3 a0 [5, 10, 11] (dr (gr σ_3 a0 0) (fun b_1 => cko σ_3 a0 [5, 10, 11] (cka σ_3 b_1 102 ((gi σ_3 a0 3) - 1) (some (.inl (((gi σ_3 b_1 (Int32.toNatClampNeg ((gi σ_3 a0 3) - 1))) - 48), σ_3)))))))))) (fun b σ_2 => cko σ_2 b [6, 17, 18] (some (.inr (b, σ_2))))))))
abbrev P_X5_digit (l : Launch) (d n0 s0 : Nat) : vX → Prop := vMX l yX5_digit cX5_digit 3 (some .int) [] d n0 s0
theorem w_X5_digit {l : Launch} {d n0 s0 : Nat} (hd : 5 ≤ d) (h0 : l.stackTraces = false) (σ : vMem) (a0 : Nat) (x1 : Int32) (x2 : Int32) : V (P_X5_digit l d n0 s0) xI σ 0 [some (.ref a0), some (.int x1), some (.int x2)] [] (f_X5_digit σ a0 x1 x2) := by
  have hC : vPx (P_X5_digit l d n0 s0) cX5_digit 3 "NobodyBeenAft$Words" (some .int) d := vMX_cx
  refine V_eq (f_X5_digit.eq_1 ..) ?_
  refine V_aload_n hC dX5_digit_0 rfl ?_
  refine V_aload_n hC dX5_digit_1 rfl ?_
  refine V_cko (fun hm => k_X5_40 (As := []) (rest := [.ref a0]) (d' := 0) hC dX5_digit_2 hm rfl rfl (Nat.le_of_ble_eq_true rfl) (Nat.le_trans (by decide) hd) (by decide) vMX_l (fun _ h => c_X5_here (Nat.le_refl _) h) (fun r => ?_))
  refine V_i2l hC dX5_digit_5 ?_
  refine V_bipush (v := 48) hC dX5_digit_6 rfl ?_
  refine V_iload_n hC dX5_digit_8 rfl ?_
  refine V_iadd hC dX5_digit_9 ?_
  refine V_i2l hC dX5_digit_10 ?_
  refine V_bipush (v := 48) hC dX5_digit_11 rfl ?_
  refine V_iload_n hC dX5_digit_13 rfl ?_
  refine V_iadd hC dX5_digit_14 ?_
  refine V_i2l hC dX5_digit_15 ?_
  refine V_callSN_PI (As := [.long (Int32.toInt64 r), .long (Int32.toInt64 (48 + x1)), .long (Int32.toInt64 (48 + x2))]) (rest := [.ref a0]) (d' := 0) hC dX5_digit_16 3 q287 q85 q381 q286 (by decide +kernel) rfl rfl (Nat.le_of_ble_eq_true rfl) (Nat.le_trans (by decide) hd) (by decide) vMX_l (fun _ h => c_X1_in (Nat.le_refl _) h) (fun r_1 => ?_)
  refine V_cko (fun hm => k_X5_36 (As := [.int r_1]) (rest := []) (d' := 4) hC dX5_digit_19 hm rfl rfl (Nat.le_of_ble_eq_true rfl) (Nat.le_trans (by decide) hd) (by decide) vMX_l (fun _ h => c_X5_need (Nat.le_refl _) h0 h) (fun σ_1 => ?_) (fun b σ_2 => ?_))
  · refine V_aload_n hC dX5_digit_22 rfl ?_
    refine V_dup hC dX5_digit_23 rfl ?_
    refine g_X5_28 hC dX5_digit_24 ?_
    refine V_iconst (v := 1) hC dX5_digit_27 rfl ?_
    refine V_iadd hC dX5_digit_28 ?_
    refine p_X5_28 hC dX5_digit_29 (fun σ_3 => ?_)
    refine V_aload_n hC dX5_digit_32 rfl ?_
    refine g_X5_9 hC dX5_digit_33 (fun b_1 => ?_)
    refine V_aload_n hC dX5_digit_36 rfl ?_
    refine g_X5_28 hC dX5_digit_37 ?_
    refine V_iconst (v := 1) hC dX5_digit_40 rfl ?_
    refine V_isub hC dX5_digit_41 ?_
    refine V_bald hC dX5_digit_42 ?_
    refine V_bipush (v := 48) hC dX5_digit_43 rfl ?_
    refine V_isub hC dX5_digit_45 ?_
    exact V_xireturn dX5_digit_46 rfl
  · exact VT_outS (by decide) rfl
theorem c_X5_digit {l : Launch} {d : Nat} (hd : 5 ≤ d) (h0 : l.stackTraces = false) {σ : vMem} {a0 : Nat} {x1 : Int32} {x2 : Int32} {r : (Int32 × vMem) ⊕ (Nat × vMem)} (h : f_X5_digit σ a0 x1 x2 = some r) : vOx l yX5_digit (ws_ yX5_digit cX5_digit 3 (some .int)) d [.ref a0, .int x1, .int x2] σ (xI r) := V_xmethod (em := xI) [some (.ref a0), some (.int x1), some (.int x2)] (by decide +kernel) rfl (Nat.le_of_ble_eq_true rfl) (w_X5_digit hd h0 σ a0 x1 x2) h
/-! NobodyBeenAft$Words.number(I)I -/
theorem k_X5_48 {α : Type} {P : vX → Prop} {emb : α → vRes} {cc : ByteArray} {nL : Nat} {ret : Option FieldType} {d : Nat} {σ : vMem} {pc : Nat} {ls : List (Option Value)} {st rest : List Value} {t0 : Option ((Int32 × vMem) ⊕ (Nat × vMem))} {f : Int32 → vMem → Option α} {h : Nat → vMem → Option α} {l : Launch} {d' a : Nat} {As : List Value} (hC : vPx P cc nL "NobodyBeenAft$Words" ret d) (hdg : decode cc pc = .ok (.invokevirtual 48, 3)) (hm : knd σ a ∈ ([5, 10, 11] : List Nat)) (hn : As.length = 2) (hst : st = As.reverse ++ .ref a :: rest) (hroom : (rest.map fun v => v.category).sum ≤ 8) (hd : d' + 1 ≤ d) (hmL : (0 : Nat) ≤ 0) (hl : ∀ X, P X → X.l = l) (hM : ∀ r, t0 = some r → vOx l yX5_digit (ws_ yX5_digit cX5_digit 3 (some .int)) d' (.ref a :: As) σ (xI r)) (kk : ∀ x σ1, V P emb σ1 (pc + 3) ls (.int x :: rest) (f x σ1)) (kx : ∀ b σ1, VT P emb σ1 pc ls b (h b σ1)) : V P emb σ pc ls st (bx t0 f h) := by
  simp only [List.mem_cons, List.not_mem_nil, or_false] at hm
  rcases hm with hk | hk | hk
  · exact V_xcallV_I (c := 5) hC hdg 2 (lw_V q367 q368 q369 q89 q373) (by decide +kernel) hk (by decide) (by decide) rfl hn hst hroom hd (by decide) hl hM kk kx
  · exact V_xcallU_I (C := "NobodyBeenAft$Rule") (owner := "NobodyBeenAft$Words") (c := 10) hC hdg 2 (lw_app (List.forall_mem_cons.mpr ⟨q367, List.forall_mem_cons.mpr ⟨q370, List.forall_mem_cons.mpr ⟨q372, List.forall_mem_cons.mpr ⟨q368, List.forall_mem_cons.mpr ⟨q89, fun _ h => absurd h List.not_mem_nil⟩⟩⟩⟩⟩) (lw_meth q373)) rfl (by decide +kernel) hk (by decide) (by decide) rfl hn hst hroom hd (by decide) hl hM kk kx
  · exact V_xcallU_I (C := "NobodyBeenAft$Log") (owner := "NobodyBeenAft$Words") (c := 11) hC hdg 2 (lw_app (List.forall_mem_cons.mpr ⟨q367, List.forall_mem_cons.mpr ⟨q370, List.forall_mem_cons.mpr ⟨q371, List.forall_mem_cons.mpr ⟨q368, List.forall_mem_cons.mpr ⟨q89, fun _ h => absurd h List.not_mem_nil⟩⟩⟩⟩⟩) (lw_meth q373)) rfl (by decide +kernel) hk (by decide) (by decide) rfl hn hst hroom hd (by decide) hl hM kk kx
def f_X5_number_2_10 (a0 : Nat) (x1 : Int32) : Nat → vMem → Int32 → Int32 → Option ((Int32 × vMem) ⊕ (Nat × vMem))
  | 0, _, _, _ => none
  | n + 1, σ_3, v2, v3 => if x1 ≤ v3 then (some (.inl (v2, σ_3))) else cko σ_3 a0 [5, 10, 11] (bp (f_X5_here σ_3 a0) (fun r_1 => bp (f_X1_in σ_3 (Int32.toInt64 r_1) 48 57) (fun r_2 => if r_2 = 0 then (some (.inl (v2, σ_3))) else cko σ_3 a0 [5, 10, 11] (bx (f_X5_digit σ_3 a0 0 9) (fun r_3 σ_4 => vl ((10 * v2) + r_3) (fun v2_1 => vl (v3 + 1) (fun v3_1 => f_X5_number_2_10 a0 x1 n σ_4 v2_1 v3_1))) (fun b_1 σ_5 => cko σ_5 b_1 [6, 17, 18] (some (.inr (b_1, σ_5))))))))
def f_X5_number_2 (σ : vMem) (a0 : Nat) (x1 : Int32) : Option ((Int32 × vMem) ⊕ (Nat × vMem)) := cko σ a0 [5, 10, 11] (bx (f_X5_digit σ a0 0 9) (fun r σ_1 => f_X5_number_2_10 a0 x1 FU σ_1 r 1) (fun b σ_2 => cko σ_2 b [6, 17, 18] (some (.inr (b, σ_2)))))
abbrev P_X5_number_2 (l : Launch) (d n0 s0 : Nat) : vX → Prop := vMX l yX5_number_2 cX5_number_2 4 (some .int) [] d n0 s0
theorem w_X5_number_2_10 {l : Launch} {d n0 s0 : Nat} (hd : 6 ≤ d) (h0 : l.stackTraces = false) (a0 : Nat) (x1 : Int32)  : ∀ (n : Nat) (σ_3 : vMem) (v2 : Int32) (v3 : Int32), V (P_X5_number_2 l d n0 s0) xI σ_3 10 [some (.ref a0), some (.int x1), some (.int v2), some (.int v3)] [] (f_X5_number_2_10 a0 x1 n σ_3 v2 v3) := by
  have hC : vPx (P_X5_number_2 l d n0 s0) cX5_number_2 4 "NobodyBeenAft$Words" (some .int) d := vMX_cx
  intro n
  induction n with
  | zero =>
    intro σ_3 v2 v3
    exact V_none
  | succ n ih =>
    intro σ_3 v2 v3
    refine V_eq (f_X5_number_2_10.eq_2 ..) ?_
    refine V_iload_n hC dX5_number_2_10 rfl ?_
    refine V_iload_n hC dX5_number_2_11 rfl ?_
    refine V_icmp_ge (tgt := 51) hC dX5_number_2_12 (by decide) ?_ ?_
    · refine V_iload_n hC dX5_number_2_51 rfl ?_
      exact V_xireturn dX5_number_2_52 rfl
    · refine V_aload_n hC dX5_number_2_15 rfl ?_
      refine V_cko (fun hm => k_X5_40 (As := []) (rest := []) (d' := 0) hC dX5_number_2_16 hm rfl rfl (Nat.le_of_ble_eq_true rfl) (Nat.le_trans (by decide) hd) (by decide) vMX_l (fun _ h => c_X5_here (Nat.le_refl _) h) (fun r_1 => ?_))
      refine V_i2l hC dX5_number_2_19 ?_
      refine V_ldc2 hC dX5_number_2_20 q452 ?_
      refine V_ldc2 hC dX5_number_2_23 q453 ?_
      refine V_callSN_PI (As := [.long (Int32.toInt64 r_1), .long 48, .long 57]) (rest := []) (d' := 0) hC dX5_number_2_26 3 q287 q85 q381 q286 (by decide +kernel) rfl rfl (Nat.le_of_ble_eq_true rfl) (Nat.le_trans (by decide) hd) (by decide) vMX_l (fun _ h => c_X1_in (Nat.le_refl _) h) (fun r_2 => ?_)
      refine V_if_eq (tgt := 51) hC dX5_number_2_29 (by decide) ?_ ?_
      · refine V_iload_n hC dX5_number_2_51 rfl ?_
        exact V_xireturn dX5_number_2_52 rfl
      · refine V_bipush (v := 10) hC dX5_number_2_32 rfl ?_
        refine V_iload_n hC dX5_number_2_34 rfl ?_
        refine V_imul hC dX5_number_2_35 ?_
        refine V_aload_n hC dX5_number_2_36 rfl ?_
        refine V_iconst (v := 0) hC dX5_number_2_37 rfl ?_
        refine V_bipush (v := 9) hC dX5_number_2_38 rfl ?_
        refine V_cko (fun hm => k_X5_48 (As := [.int 0, .int 9]) (rest := [.int (10 * v2)]) (d' := 5) hC dX5_number_2_40 hm rfl rfl (Nat.le_of_ble_eq_true rfl) (Nat.le_trans (by decide) hd) (by decide) vMX_l (fun _ h => c_X5_digit (Nat.le_refl _) h0 h) (fun r_3 σ_4 => ?_) (fun b_1 σ_5 => ?_))
        · refine V_iadd hC dX5_number_2_43 ?_
          refine V_istore_nL (ls' := fun v2_1 => [some (.ref a0), some (.int x1), some (.int v2_1), some (.int v3)]) hC dX5_number_2_44 (by decide) rfl (fun _ => rfl) (fun v2_1 => ?_)
          refine V_iincL (v := v3 + 1) (ls' := fun v3_1 => [some (.ref a0), some (.int x1), some (.int v2_1), some (.int v3_1)]) hC dX5_number_2_45 rfl (by decide) rfl rfl (fun _ => rfl) (fun v3_1 => ?_)
          refine V_goto (tgt := 10) hC dX5_number_2_48 (by decide) ?_
          exact ih σ_4 v2_1 v3_1
        · exact VT_outS (by decide) rfl
theorem w_X5_number_2 {l : Launch} {d n0 s0 : Nat} (hd : 6 ≤ d) (h0 : l.stackTraces = false) (σ : vMem) (a0 : Nat) (x1 : Int32) : V (P_X5_number_2 l d n0 s0) xI σ 0 [some (.ref a0), some (.int x1), none, none] [] (f_X5_number_2 σ a0 x1) := by
  have hC : vPx (P_X5_number_2 l d n0 s0) cX5_number_2 4 "NobodyBeenAft$Words" (some .int) d := vMX_cx
  refine V_eq (f_X5_number_2.eq_1 ..) ?_
  refine V_aload_n hC dX5_number_2_0 rfl ?_
  refine V_iconst (v := 0) hC dX5_number_2_1 rfl ?_
  refine V_bipush (v := 9) hC dX5_number_2_2 rfl ?_
  refine V_cko (fun hm => k_X5_48 (As := [.int 0, .int 9]) (rest := []) (d' := 5) hC dX5_number_2_4 hm rfl rfl (Nat.le_of_ble_eq_true rfl) (Nat.le_trans (by decide) hd) (by decide) vMX_l (fun _ h => c_X5_digit (Nat.le_refl _) h0 h) (fun r σ_1 => ?_) (fun b σ_2 => ?_))
  · refine V_istore_n (ls' := [some (.ref a0), some (.int x1), some (.int r), none]) hC dX5_number_2_7 (by decide) rfl rfl ?_
    refine V_iconst (v := 1) hC dX5_number_2_8 rfl ?_
    refine V_istore_n (ls' := [some (.ref a0), some (.int x1), some (.int r), some (.int 1)]) hC dX5_number_2_9 (by decide) rfl rfl ?_
    exact (w_X5_number_2_10 hd h0 a0 x1) FU σ_1 r 1
  · exact VT_outS (by decide) rfl
theorem c_X5_number_2 {l : Launch} {d : Nat} (hd : 6 ≤ d) (h0 : l.stackTraces = false) {σ : vMem} {a0 : Nat} {x1 : Int32} {r : (Int32 × vMem) ⊕ (Nat × vMem)} (h : f_X5_number_2 σ a0 x1 = some r) : vOx l yX5_number_2 (ws_ yX5_number_2 cX5_number_2 4 (some .int)) d [.ref a0, .int x1] σ (xI r) := V_xmethod (em := xI) [some (.ref a0), some (.int x1), none, none] (by decide +kernel) rfl (Nat.le_of_ble_eq_true rfl) (w_X5_number_2 hd h0 σ a0 x1) h
/-! NobodyBeenAft$Words.number(III)I -/
theorem k_X5_55 {α : Type} {P : vX → Prop} {emb : α → vRes} {cc : ByteArray} {nL : Nat} {ret : Option FieldType} {d : Nat} {σ : vMem} {pc : Nat} {ls : List (Option Value)} {st rest : List Value} {t0 : Option ((Int32 × vMem) ⊕ (Nat × vMem))} {f : Int32 → vMem → Option α} {h : Nat → vMem → Option α} {l : Launch} {d' a : Nat} {As : List Value} (hC : vPx P cc nL "NobodyBeenAft$Words" ret d) (hdg : decode cc pc = .ok (.invokevirtual 55, 3)) (hm : knd σ a ∈ ([5, 10, 11] : List Nat)) (hn : As.length = 1) (hst : st = As.reverse ++ .ref a :: rest) (hroom : (rest.map fun v => v.category).sum ≤ 8) (hd : d' + 1 ≤ d) (hmL : (0 : Nat) ≤ 0) (hl : ∀ X, P X → X.l = l) (hM : ∀ r, t0 = some r → vOx l yX5_number_2 (ws_ yX5_number_2 cX5_number_2 4 (some .int)) d' (.ref a :: As) σ (xI r)) (kk : ∀ x σ1, V P emb σ1 (pc + 3) ls (.int x :: rest) (f x σ1)) (kx : ∀ b σ1, VT P emb σ1 pc ls b (h b σ1)) : V P emb σ pc ls st (bx t0 f h) := by
  simp only [List.mem_cons, List.not_mem_nil, or_false] at hm
  rcases hm with hk | hk | hk
  · exact V_xcallV_I (c := 5) hC hdg 1 (lw_V q360 q361 q362 q89 q366) (by decide +kernel) hk (by decide) (by decide) rfl hn hst hroom hd (by decide) hl hM kk kx
  · exact V_xcallU_I (C := "NobodyBeenAft$Rule") (owner := "NobodyBeenAft$Words") (c := 10) hC hdg 1 (lw_app (List.forall_mem_cons.mpr ⟨q360, List.forall_mem_cons.mpr ⟨q363, List.forall_mem_cons.mpr ⟨q365, List.forall_mem_cons.mpr ⟨q361, List.forall_mem_cons.mpr ⟨q89, fun _ h => absurd h List.not_mem_nil⟩⟩⟩⟩⟩) (lw_meth q366)) rfl (by decide +kernel) hk (by decide) (by decide) rfl hn hst hroom hd (by decide) hl hM kk kx
  · exact V_xcallU_I (C := "NobodyBeenAft$Log") (owner := "NobodyBeenAft$Words") (c := 11) hC hdg 1 (lw_app (List.forall_mem_cons.mpr ⟨q360, List.forall_mem_cons.mpr ⟨q363, List.forall_mem_cons.mpr ⟨q364, List.forall_mem_cons.mpr ⟨q361, List.forall_mem_cons.mpr ⟨q89, fun _ h => absurd h List.not_mem_nil⟩⟩⟩⟩⟩) (lw_meth q366)) rfl (by decide +kernel) hk (by decide) (by decide) rfl hn hst hroom hd (by decide) hl hM kk kx
def f_X5_number (σ : vMem) (a0 : Nat) (x1 : Int32) (x2 : Int32) (x3 : Int32) : Option ((Int32 × vMem) ⊕ (Nat × vMem)) := cko σ a0 [5, 10, 11] (bx (f_X5_number_2 σ a0 x1) (fun r σ_1 => bp (f_X1_in σ_1 (Int32.toInt64 r) (Int32.toInt64 x2) (Int32.toInt64 x3)) (fun r_1 => if ¬ r_1 = 0 then (some (.inl (r, σ_1))) else cko σ_1 a0 [5, 10, 11] (ck (mn σ_1 < SB) (vl (si (alc σ_1 6 7) (mn σ_1) 0 (gi σ_1 a0 3 - 1)) (fun σ_3 => cko σ_3 (mn σ_1) [6, 17, 18] (some (.inr (mn σ_1, σ_3)))))))) (fun b σ_2 => cko σ_2 b [6, 17, 18] (some (.inr (b, σ_2)))))
abbrev P_X5_number (l : Launch) (d n0 s0 : Nat) : vX → Prop := vMX l yX5_number cX5_number 5 (some .int) [] d n0 s0
theorem w_X5_number {l : Launch} {d n0 s0 : Nat} (hd : 7 ≤ d) (h0 : l.stackTraces = false) (σ : vMem) (a0 : Nat) (x1 : Int32) (x2 : Int32) (x3 : Int32) : V (P_X5_number l d n0 s0) xI σ 0 [some (.ref a0), some (.int x1), some (.int x2), some (.int x3), none] [] (f_X5_number σ a0 x1 x2 x3) := by
  have hC : vPx (P_X5_number l d n0 s0) cX5_number 5 "NobodyBeenAft$Words" (some .int) d := vMX_cx
  refine V_eq (f_X5_number.eq_1 ..) ?_
  refine V_aload_n hC dX5_number_0 rfl ?_
  refine V_iload_n hC dX5_number_1 rfl ?_
  refine V_cko (fun hm => k_X5_55 (As := [.int x1]) (rest := []) (d' := 6) hC dX5_number_2 hm rfl rfl (Nat.le_of_ble_eq_true rfl) (Nat.le_trans (by decide) hd) (by decide) vMX_l (fun _ h => c_X5_number_2 (Nat.le_refl _) h0 h) (fun r σ_1 => ?_) (fun b σ_2 => ?_))
  · refine V_istore (ls' := [some (.ref a0), some (.int x1), some (.int x2), some (.int x3), some (.int r)]) hC dX5_number_5 (by decide) rfl rfl ?_
    refine V_iload hC dX5_number_7 rfl ?_
    refine V_i2l hC dX5_number_9 ?_
    refine V_iload_n hC dX5_number_10 rfl ?_
    refine V_i2l hC dX5_number_11 ?_
    refine V_iload_n hC dX5_number_12 rfl ?_
    refine V_i2l hC dX5_number_13 ?_
    refine V_callSN_PI (As := [.long (Int32.toInt64 r), .long (Int32.toInt64 x2), .long (Int32.toInt64 x3)]) (rest := []) (d' := 0) hC dX5_number_14 3 q287 q85 q381 q286 (by decide +kernel) rfl rfl (Nat.le_of_ble_eq_true rfl) (Nat.le_trans (by decide) hd) (by decide) vMX_l (fun _ h => c_X1_in (Nat.le_refl _) h) (fun r_1 => ?_)
    refine V_if_ne (tgt := 34) hC dX5_number_17 (by decide) ?_ ?_
    · refine V_iload hC dX5_number_34 rfl ?_
      exact V_xireturn dX5_number_36 rfl
    · refine V_fault1 hC (Nat.le_trans (by decide) hd) (fun X hX => (congrArg Launch.stackTraces (vMX_l X hX)).trans h0) dX5_number_20 dX5_number_23 dX5_number_24 dX5_number_25 dX5_number_28 dX5_number_29 dX5_number_30 dX5_number_33 rfl (by decide) (fun σ_3 => ?_)
      exact VT_outS (by decide) rfl
  · exact VT_outS (by decide) rfl
theorem c_X5_number {l : Launch} {d : Nat} (hd : 7 ≤ d) (h0 : l.stackTraces = false) {σ : vMem} {a0 : Nat} {x1 : Int32} {x2 : Int32} {x3 : Int32} {r : (Int32 × vMem) ⊕ (Nat × vMem)} (h : f_X5_number σ a0 x1 x2 x3 = some r) : vOx l yX5_number (ws_ yX5_number cX5_number 5 (some .int)) d [.ref a0, .int x1, .int x2, .int x3] σ (xI r) := V_xmethod (em := xI) [some (.ref a0), some (.int x1), some (.int x2), some (.int x3), none] (by decide +kernel) rfl (Nat.le_of_ble_eq_true rfl) (w_X5_number hd h0 σ a0 x1 x2 x3) h
/-! NobodyBeenAft$Words.passes(C)Z -/
def f_X5_passes (σ : vMem) (a0 : Nat) (x1 : Int32) : Option (Int32 × vMem) := cko σ a0 [5, 10, 11] (bp (f_X5_here σ a0) (fun r => if r = x1 then (cko σ a0 [5, 10, 11] (cko σ a0 [5, 10, 11] (vl (si σ a0 3 ((gi σ a0 3) + 1)) (fun σ_1 => some (1, σ_1))))) else some (0, σ)))
abbrev P_X5_passes (l : Launch) (d n0 s0 : Nat) : vX → Prop := vMP l yX5_passes cX5_passes 2 (some .boolean) d n0 s0
theorem w_X5_passes {l : Launch} {d n0 s0 : Nat} (hd : 1 ≤ d) (σ : vMem) (a0 : Nat) (x1 : Int32) : V (P_X5_passes l d n0 s0) (vEmb eI) σ 0 [some (.ref a0), some (.int x1)] [] (f_X5_passes σ a0 x1) := by
  have hC : vPx (P_X5_passes l d n0 s0) cX5_passes 2 "NobodyBeenAft$Words" (some .boolean) d := vMP_cx
  refine V_eq (f_X5_passes.eq_1 ..) ?_
  refine V_aload_n hC dX5_passes_0 rfl ?_
  refine V_cko (fun hm => k_X5_40 (As := []) (rest := []) (d' := 0) hC dX5_passes_1 hm rfl rfl (Nat.le_of_ble_eq_true rfl) (Nat.le_trans (by decide) hd) (by decide) vMP_l (fun _ h => c_X5_here (Nat.le_refl _) h) (fun r => ?_))
  refine V_iload_n hC dX5_passes_4 rfl ?_
  refine V_icmp_eq (tgt := 10) hC dX5_passes_5 (by decide) ?_ ?_
  · refine V_aload_n hC dX5_passes_10 rfl ?_
    refine V_dup hC dX5_passes_11 rfl ?_
    refine g_X5_28 hC dX5_passes_12 ?_
    refine V_iconst (v := 1) hC dX5_passes_15 rfl ?_
    refine V_iadd hC dX5_passes_16 ?_
    refine p_X5_28 hC dX5_passes_17 (fun σ_1 => ?_)
    refine V_iconst (v := 1) hC dX5_passes_20 rfl ?_
    exact V_zreturn rfl dX5_passes_21 rfl rfl
  · refine V_iconst (v := 0) hC dX5_passes_8 rfl ?_
    exact V_zreturn rfl dX5_passes_9 rfl rfl
theorem c_X5_passes {l : Launch} {d : Nat} (hd : 1 ≤ d) {σ : vMem} {a0 : Nat} {x1 : Int32} {r : Int32 × vMem} (h : f_X5_passes σ a0 x1 = some r) : vOk l yX5_passes cX5_passes 2 (some .boolean) d [.ref a0, .int x1] σ (.inl ((eI).1 r, (eI).2 r)) := V_method (em := eI) [some (.ref a0), some (.int x1)] (by decide +kernel) rfl (Nat.le_of_ble_eq_true rfl) (w_X5_passes hd σ a0 x1) h
/-! NobodyBeenAft$Words.needEnd()V -/
def f_X5_needEnd (σ : vMem) (a0 : Nat) : Option (vMem ⊕ (Nat × vMem)) := cko σ a0 [5, 10, 11] (cko σ a0 [5, 10, 11] (vl (fun (y : Int32) => cko σ a0 [5, 10, 11] (bxv (f_X5_need σ a0 y) (fun σ_1 => some (.inl σ_1)) (fun b σ_2 => cko σ_2 b [6, 17, 18] (some (.inr (b, σ_2)))))) (fun k => if ¬ (gi σ a0 3) = (gi σ a0 1) then (k 0) else k 1)))
abbrev P_X5_needEnd (l : Launch) (d n0 s0 : Nat) : vX → Prop := vMX l yX5_needEnd cX5_needEnd 1 none [] d n0 s0
theorem w_X5_needEnd {l : Launch} {d n0 s0 : Nat} (hd : 5 ≤ d) (h0 : l.stackTraces = false) (σ : vMem) (a0 : Nat) : V (P_X5_needEnd l d n0 s0) xV σ 0 [some (.ref a0)] [] (f_X5_needEnd σ a0) := by
  have hC : vPx (P_X5_needEnd l d n0 s0) cX5_needEnd 1 "NobodyBeenAft$Words" none d := vMX_cx
  refine V_eq (f_X5_needEnd.eq_1 ..) ?_
  refine V_aload_n hC dX5_needEnd_0 rfl ?_
  refine V_aload_n hC dX5_needEnd_1 rfl ?_
  refine g_X5_28 hC dX5_needEnd_2 ?_
  refine V_aload_n hC dX5_needEnd_5 rfl ?_
  refine g_X5_15 hC dX5_needEnd_6 ?_
  refine V_let (B := fun k => ∀ (y : Int32), V (P_X5_needEnd l d n0 s0) xV σ 17 [none] [.int y, .ref a0] (k y)) ?_ ?_
  · intro y
    refine V_cko (fun hm => k_X5_36 (As := [.int y]) (rest := []) (d' := 4) hC dX5_needEnd_17 hm rfl rfl (Nat.le_of_ble_eq_true rfl) (Nat.le_trans (by decide) hd) (by decide) vMX_l (fun _ h => c_X5_need (Nat.le_refl _) h0 h) (fun σ_1 => ?_) (fun b σ_2 => ?_))
    · exact V_xreturn dX5_needEnd_20 rfl
    · exact VT_outS (by decide) rfl
  · intro k hk
    refine V_icmp_ne (tgt := 16) hC dX5_needEnd_9 (by decide) ?_ ?_
    · refine V_iconst (v := 0) hC dX5_needEnd_16 rfl ?_
      refine V_clr [0] (ls' := [none]) rfl ?_
      exact hk 0
    · refine V_iconst (v := 1) hC dX5_needEnd_12 rfl ?_
      refine V_goto (tgt := 17) hC dX5_needEnd_13 (by decide) ?_
      refine V_clr [0] (ls' := [none]) rfl ?_
      exact hk 1
theorem c_X5_needEnd {l : Launch} {d : Nat} (hd : 5 ≤ d) (h0 : l.stackTraces = false) {σ : vMem} {a0 : Nat} {r : vMem ⊕ (Nat × vMem)} (h : f_X5_needEnd σ a0 = some r) : vOx l yX5_needEnd (ws_ yX5_needEnd cX5_needEnd 1 none) d [.ref a0] σ (xV r) := V_xmethod (em := xV) [some (.ref a0)] (by decide +kernel) rfl (Nat.le_of_ble_eq_true rfl) (w_X5_needEnd hd h0 σ a0) h
/-! NobodyBeenAft$Ship.read(LNobodyBeenAft$Words;)LNobodyBeenAft$Ship; -/
theorem k_X4_15 {α : Type} {P : vX → Prop} {emb : α → vRes} {cc : ByteArray} {nL : Nat} {ret : Option FieldType} {d : Nat} {σ : vMem} {pc : Nat} {ls : List (Option Value)} {st rest : List Value} {t0 : Option ((Int32 × vMem) ⊕ (Nat × vMem))} {f : Int32 → vMem → Option α} {h : Nat → vMem → Option α} {l : Launch} {d' a : Nat} {As : List Value} (hC : vPx P cc nL "NobodyBeenAft$Ship" ret d) (hdg : decode cc pc = .ok (.invokevirtual 15, 3)) (hm : knd σ a ∈ ([5, 10, 11] : List Nat)) (hn : As.length = 3) (hst : st = As.reverse ++ .ref a :: rest) (hroom : (rest.map fun v => v.category).sum ≤ 8) (hd : d' + 1 ≤ d) (hmL : (0 : Nat) ≤ 0) (hl : ∀ X, P X → X.l = l) (hM : ∀ r, t0 = some r → vOx l yX5_number (ws_ yX5_number cX5_number 5 (some .int)) d' (.ref a :: As) σ (xI r)) (kk : ∀ x σ1, V P emb σ1 (pc + 3) ls (.int x :: rest) (f x σ1)) (kx : ∀ b σ1, VT P emb σ1 pc ls b (h b σ1)) : V P emb σ pc ls st (bx t0 f h) := by
  simp only [List.mem_cons, List.not_mem_nil, or_false] at hm
  rcases hm with hk | hk | hk
  · exact V_xcallV_I (c := 5) hC hdg 3 (lw_V q353 q354 q355 q89 q359) (by decide +kernel) hk (by decide) (by decide) rfl hn hst hroom hd (by decide) hl hM kk kx
  · exact V_xcallU_I (C := "NobodyBeenAft$Rule") (owner := "NobodyBeenAft$Words") (c := 10) hC hdg 3 (lw_app (List.forall_mem_cons.mpr ⟨q353, List.forall_mem_cons.mpr ⟨q356, List.forall_mem_cons.mpr ⟨q358, List.forall_mem_cons.mpr ⟨q354, List.forall_mem_cons.mpr ⟨q89, fun _ h => absurd h List.not_mem_nil⟩⟩⟩⟩⟩) (lw_meth q359)) rfl (by decide +kernel) hk (by decide) (by decide) rfl hn hst hroom hd (by decide) hl hM kk kx
  · exact V_xcallU_I (C := "NobodyBeenAft$Log") (owner := "NobodyBeenAft$Words") (c := 11) hC hdg 3 (lw_app (List.forall_mem_cons.mpr ⟨q353, List.forall_mem_cons.mpr ⟨q356, List.forall_mem_cons.mpr ⟨q357, List.forall_mem_cons.mpr ⟨q354, List.forall_mem_cons.mpr ⟨q89, fun _ h => absurd h List.not_mem_nil⟩⟩⟩⟩⟩) (lw_meth q359)) rfl (by decide +kernel) hk (by decide) (by decide) rfl hn hst hroom hd (by decide) hl hM kk kx
theorem k_X4_35 {α : Type} {P : vX → Prop} {emb : α → vRes} {cc : ByteArray} {nL : Nat} {ret : Option FieldType} {d : Nat} {σ : vMem} {pc : Nat} {ls : List (Option Value)} {st rest : List Value} {t0 : Option (vMem ⊕ (Nat × vMem))} {f : vMem → Option α} {h : Nat → vMem → Option α} {l : Launch} {d' a : Nat} {As : List Value} (hC : vPx P cc nL "NobodyBeenAft$Ship" ret d) (hdg : decode cc pc = .ok (.invokevirtual 35, 3)) (hm : knd σ a ∈ ([5, 10, 11] : List Nat)) (hn : As.length = 0) (hst : st = As.reverse ++ .ref a :: rest) (hroom : (rest.map fun v => v.category).sum ≤ 8) (hd : d' + 1 ≤ d) (hmL : (0 : Nat) ≤ 0) (hl : ∀ X, P X → X.l = l) (hM : ∀ r, t0 = some r → vOx l yX5_needEnd (ws_ yX5_needEnd cX5_needEnd 1 none) d' (.ref a :: As) σ (xV r)) (kk : ∀ σ1, V P emb σ1 (pc + 3) ls rest (f σ1)) (kx : ∀ b σ1, VT P emb σ1 pc ls b (h b σ1)) : V P emb σ pc ls st (bxv t0 f h) := by
  simp only [List.mem_cons, List.not_mem_nil, or_false] at hm
  rcases hm with hk | hk | hk
  · exact V_xcallV_V (c := 5) hC hdg 0 (lw_V q461 q462 q463 q89 q467) (by decide +kernel) hk (by decide) (by decide) rfl hn hst hroom hd (by decide) hl hM kk kx
  · exact V_xcallU_V (C := "NobodyBeenAft$Rule") (owner := "NobodyBeenAft$Words") (c := 10) hC hdg 0 (lw_app (List.forall_mem_cons.mpr ⟨q461, List.forall_mem_cons.mpr ⟨q464, List.forall_mem_cons.mpr ⟨q466, List.forall_mem_cons.mpr ⟨q462, List.forall_mem_cons.mpr ⟨q89, fun _ h => absurd h List.not_mem_nil⟩⟩⟩⟩⟩) (lw_meth q467)) rfl (by decide +kernel) hk (by decide) (by decide) rfl hn hst hroom hd (by decide) hl hM kk kx
  · exact V_xcallU_V (C := "NobodyBeenAft$Log") (owner := "NobodyBeenAft$Words") (c := 11) hC hdg 0 (lw_app (List.forall_mem_cons.mpr ⟨q461, List.forall_mem_cons.mpr ⟨q464, List.forall_mem_cons.mpr ⟨q465, List.forall_mem_cons.mpr ⟨q462, List.forall_mem_cons.mpr ⟨q89, fun _ h => absurd h List.not_mem_nil⟩⟩⟩⟩⟩) (lw_meth q467)) rfl (by decide +kernel) hk (by decide) (by decide) rfl hn hst hroom hd (by decide) hl hM kk kx
theorem k_X4_28 {α : Type} {P : vX → Prop} {emb : α → vRes} {cc : ByteArray} {nL : Nat} {ret : Option FieldType} {d : Nat} {σ : vMem} {pc : Nat} {ls : List (Option Value)} {st rest : List Value} {t0 : Option (Int32 × vMem)} {f : Int32 → vMem → Option α} {l : Launch} {d' a : Nat} {As : List Value} (hC : vPx P cc nL "NobodyBeenAft$Ship" ret d) (hdg : decode cc pc = .ok (.invokevirtual 28, 3)) (hm : knd σ a ∈ ([5, 10, 11] : List Nat)) (hn : As.length = 1) (hst : st = As.reverse ++ .ref a :: rest) (hroom : (rest.map fun v => v.category).sum ≤ 8) (hd : d' + 1 ≤ d) (hmL : (0 : Nat) ≤ 0) (hl : ∀ X, P X → X.l = l) (hM : ∀ r, t0 = some r → vOk l yX5_passes cX5_passes 2 (some .boolean) d' (.ref a :: As) σ (.inl (eI.1 r, eI.2 r))) (kk : ∀ x σ1, V P emb σ1 (pc + 3) ls (.int x :: rest) (f x σ1)) : V P emb σ pc ls st (bd t0 f) := by
  simp only [List.mem_cons, List.not_mem_nil, or_false] at hm
  rcases hm with hk | hk | hk
  · exact V_callV_I (c := 5) hC hdg 1 (lw_V q454 q455 q456 q89 q460) (by decide +kernel) hk (by decide) (by decide) rfl hn hst hroom hd (by decide) hl hM kk
  · exact V_callU_I (C := "NobodyBeenAft$Rule") (owner := "NobodyBeenAft$Words") (c := 10) hC hdg 1 (lw_app (List.forall_mem_cons.mpr ⟨q454, List.forall_mem_cons.mpr ⟨q457, List.forall_mem_cons.mpr ⟨q459, List.forall_mem_cons.mpr ⟨q455, List.forall_mem_cons.mpr ⟨q89, fun _ h => absurd h List.not_mem_nil⟩⟩⟩⟩⟩) (lw_meth q460)) rfl (by decide +kernel) hk (by decide) (by decide) rfl hn hst hroom hd (by decide) hl hM kk
  · exact V_callU_I (C := "NobodyBeenAft$Log") (owner := "NobodyBeenAft$Words") (c := 11) hC hdg 1 (lw_app (List.forall_mem_cons.mpr ⟨q454, List.forall_mem_cons.mpr ⟨q457, List.forall_mem_cons.mpr ⟨q458, List.forall_mem_cons.mpr ⟨q455, List.forall_mem_cons.mpr ⟨q89, fun _ h => absurd h List.not_mem_nil⟩⟩⟩⟩⟩) (lw_meth q460)) rfl (by decide +kernel) hk (by decide) (by decide) rfl hn hst hroom hd (by decide) hl hM kk
def f_X4_read_12 (a0 : Nat) (a1 : Nat) (k : vMem → Option ((Nat × vMem) ⊕ (Nat × vMem))) : Nat → vMem → Option ((Nat × vMem) ⊕ (Nat × vMem))
  | 0, _ => none
  | n + 1, σ_7 => cko σ_7 a0 [4] (if 10 ≤ (gi σ_7 a0 2) then (k σ_7) else cko σ_7 a1 [5, 10, 11] (bd (f_X5_passes σ_7 a1 44) (fun r_1 σ_8 => if r_1 = 0 then (k σ_8) else cko σ_8 a0 [4] (dr (gr σ_8 a0 0) (fun b_2 => cko σ_8 a0 [4] (cko σ_8 a0 [4] (vl (fun (y : Int32) => cko σ_8 a0 [4] (cko σ_8 a1 [5, 10, 11] (bx (f_X5_number σ_8 a1 2 y ((gi σ_8 a0 1) - 1)) (fun r_2 σ_9 => cka σ_9 b_2 105 (gi σ_8 a0 2) (vl (si σ_9 b_2 (Int32.toNatClampNeg (gi σ_8 a0 2)) r_2) (fun σ_11 => cko σ_11 a0 [4] (cko σ_11 a1 [5, 10, 11] (bd (f_X5_passes σ_11 a1 42) (fun r_3 σ_12 => vl (fun (y_1 : Int32) => cko σ_12 a0 [4] (vl (si σ_12 a0 3 ((gi σ_11 a0 3) ||| y_1)) (fun σ_13 => cko σ_13 a0 [4] (cko σ_13 a0 [4] (vl (si σ_13 a0 2 ((gi σ_13 a0 2) + 1)) (fun σ_14 => f_X4_read_12 a0 a1 k n σ_14)))))) (fun k_2 => if r_3 = 0 then (k_2 0) else cko σ_12 a0 [4] (k_2 (1 <<< ((gi σ_12 a0 2) &&& 31)))))))))) (fun b_3 σ_10 => cko σ_10 b_3 [6, 17, 18] (some (.inr (b_3, σ_10))))))) (fun k_1 => if ¬ (gi σ_8 a0 2) = 0 then (cko σ_8 a0 [4] (dr (gr σ_8 a0 0) (fun b_4 => cko σ_8 a0 [4] (cka σ_8 b_4 105 ((gi σ_8 a0 2) - 1) (k_1 ((gi σ_8 b_4 (Int32.toNatClampNeg ((gi σ_8 a0 2) - 1))) + 1)))))) else k_1 0))))))))
def f_X4_read (σ : vMem) (a0 : Nat) (a1 : Nat) : Option ((Nat × vMem) ⊕ (Nat × vMem)) := cko σ a1 [5, 10, 11] (bx (f_X5_number σ a1 2 2 40) (fun r σ_1 => cko σ_1 a0 [4] (vl (si σ_1 a0 1 r) (fun σ_3 => vl (fun (σ_4 : vMem) => cko σ_4 a1 [5, 10, 11] (bxv (f_X5_needEnd σ_4 a1) (fun σ_5 => some (.inl (a0, σ_5))) (fun b_1 σ_6 => cko σ_6 b_1 [6, 17, 18] (some (.inr (b_1, σ_6)))))) (fun k => f_X4_read_12 a0 a1 k FU σ_3)))) (fun b σ_2 => cko σ_2 b [6, 17, 18] (some (.inr (b, σ_2)))))
abbrev P_X4_read (l : Launch) (d n0 s0 : Nat) : vX → Prop := vMX l yX4_read cX4_read 2 (some (.object "NobodyBeenAft$Ship")) [] d n0 s0
theorem w_X4_read_12 {l : Launch} {d n0 s0 : Nat} (hd : 8 ≤ d) (h0 : l.stackTraces = false) (a0 : Nat) (a1 : Nat) (k : vMem → Option ((Nat × vMem) ⊕ (Nat × vMem))) (hk : ∀ (σ_4 : vMem), V (P_X4_read l d n0 s0) xA σ_4 115 [some (.ref a0), some (.ref a1)] [] (k σ_4)) : ∀ (n : Nat) (σ_7 : vMem), V (P_X4_read l d n0 s0) xA σ_7 12 [some (.ref a0), some (.ref a1)] [] (f_X4_read_12 a0 a1 k n σ_7) := by
  have hC : vPx (P_X4_read l d n0 s0) cX4_read 2 "NobodyBeenAft$Ship" (some (.object "NobodyBeenAft$Ship")) d := vMX_cx
  intro n
  induction n with
  | zero =>
    intro σ_7
    exact V_none
  | succ n ih =>
    intro σ_7
    refine V_eq (f_X4_read_12.eq_2 ..) ?_
    refine V_aload_n hC dX4_read_12 rfl ?_
    refine g_X4_25 hC dX4_read_13 ?_
    refine V_bipush (v := 10) hC dX4_read_16 rfl ?_
    refine V_icmp_ge (tgt := 115) hC dX4_read_18 (by decide) ?_ ?_
    · exact hk σ_7
    · refine V_aload_n hC dX4_read_21 rfl ?_
      refine V_bipush (v := 44) hC dX4_read_22 rfl ?_
      refine V_cko (fun hm => k_X4_28 (As := [.int 44]) (rest := []) (d' := 1) hC dX4_read_24 hm rfl rfl (Nat.le_of_ble_eq_true rfl) (Nat.le_trans (by decide) hd) (by decide) vMX_l (fun _ h => c_X5_passes (Nat.le_refl _) h) (fun r_1 σ_8 => ?_))
      refine V_if_eq (tgt := 115) hC dX4_read_27 (by decide) ?_ ?_
      · exact hk σ_8
      · refine V_aload_n hC dX4_read_30 rfl ?_
        refine g_X4_9 hC dX4_read_31 (fun b_2 => ?_)
        refine V_aload_n hC dX4_read_34 rfl ?_
        refine g_X4_25 hC dX4_read_35 ?_
        refine V_aload_n hC dX4_read_38 rfl ?_
        refine V_iconst (v := 2) hC dX4_read_39 rfl ?_
        refine V_aload_n hC dX4_read_40 rfl ?_
        refine g_X4_25 hC dX4_read_41 ?_
        refine V_let (B := fun k_1 => ∀ (y : Int32), V (P_X4_read l d n0 s0) xA σ_8 64 [some (.ref a0), some (.ref a1)] [.int y, .int 2, .ref a1, .int (gi σ_8 a0 2), .ref b_2] (k_1 y)) ?_ ?_
        · intro y
          refine V_aload_n hC dX4_read_64 rfl ?_
          refine g_X4_21 hC dX4_read_65 ?_
          refine V_iconst (v := 1) hC dX4_read_68 rfl ?_
          refine V_isub hC dX4_read_69 ?_
          refine V_cko (fun hm => k_X4_15 (As := [.int 2, .int y, .int ((gi σ_8 a0 1) - 1)]) (rest := [.int (gi σ_8 a0 2), .ref b_2]) (d' := 7) hC dX4_read_70 hm rfl rfl (Nat.le_of_ble_eq_true rfl) (Nat.le_trans (by decide) hd) (by decide) vMX_l (fun _ h => c_X5_number (Nat.le_refl _) h0 h) (fun r_2 σ_9 => ?_) (fun b_3 σ_10 => ?_))
          · refine V_iast hC dX4_read_73 (fun σ_11 => ?_)
            refine V_aload_n hC dX4_read_74 rfl ?_
            refine V_dup hC dX4_read_75 rfl ?_
            refine g_X4_32 hC dX4_read_76 ?_
            refine V_aload_n hC dX4_read_79 rfl ?_
            refine V_bipush (v := 42) hC dX4_read_80 rfl ?_
            refine V_cko (fun hm => k_X4_28 (As := [.int 42]) (rest := [.int (gi σ_11 a0 3), .ref a0]) (d' := 1) hC dX4_read_82 hm rfl rfl (Nat.le_of_ble_eq_true rfl) (Nat.le_trans (by decide) hd) (by decide) vMX_l (fun _ h => c_X5_passes (Nat.le_refl _) h) (fun r_3 σ_12 => ?_))
            refine V_let (B := fun k_2 => ∀ (y_1 : Int32), V (P_X4_read l d n0 s0) xA σ_12 98 [some (.ref a0), some (.ref a1)] [.int y_1, .int (gi σ_11 a0 3), .ref a0] (k_2 y_1)) ?_ ?_
            · intro y_1
              refine V_ior hC dX4_read_98 ?_
              refine p_X4_32 hC dX4_read_99 (fun σ_13 => ?_)
              refine V_aload_n hC dX4_read_102 rfl ?_
              refine V_dup hC dX4_read_103 rfl ?_
              refine g_X4_25 hC dX4_read_104 ?_
              refine V_iconst (v := 1) hC dX4_read_107 rfl ?_
              refine V_iadd hC dX4_read_108 ?_
              refine p_X4_25 hC dX4_read_109 (fun σ_14 => ?_)
              refine V_goto (tgt := 12) hC dX4_read_112 (by decide) ?_
              exact ih σ_14
            · intro k_2 hk_2
              refine V_if_eq (tgt := 97) hC dX4_read_85 (by decide) ?_ ?_
              · refine V_iconst (v := 0) hC dX4_read_97 rfl ?_
                exact hk_2 0
              · refine V_iconst (v := 1) hC dX4_read_88 rfl ?_
                refine V_aload_n hC dX4_read_89 rfl ?_
                refine g_X4_25 hC dX4_read_90 ?_
                refine V_ishl hC dX4_read_93 ?_
                refine V_goto (tgt := 98) hC dX4_read_94 (by decide) ?_
                exact hk_2 (1 <<< ((gi σ_12 a0 2) &&& 31))
          · exact VT_outS (by decide) rfl
        · intro k_1 hk_1
          refine V_if_ne (tgt := 51) hC dX4_read_44 (by decide) ?_ ?_
          · refine V_aload_n hC dX4_read_51 rfl ?_
            refine g_X4_9 hC dX4_read_52 (fun b_4 => ?_)
            refine V_aload_n hC dX4_read_55 rfl ?_
            refine g_X4_25 hC dX4_read_56 ?_
            refine V_iconst (v := 1) hC dX4_read_59 rfl ?_
            refine V_isub hC dX4_read_60 ?_
            refine V_iald hC dX4_read_61 ?_
            refine V_iconst (v := 1) hC dX4_read_62 rfl ?_
            refine V_iadd hC dX4_read_63 ?_
            exact hk_1 ((gi σ_8 b_4 (Int32.toNatClampNeg ((gi σ_8 a0 2) - 1))) + 1)
          · refine V_iconst (v := 0) hC dX4_read_47 rfl ?_
            refine V_goto (tgt := 64) hC dX4_read_48 (by decide) ?_
            exact hk_1 0
theorem w_X4_read {l : Launch} {d n0 s0 : Nat} (hd : 8 ≤ d) (h0 : l.stackTraces = false) (σ : vMem) (a0 : Nat) (a1 : Nat) : V (P_X4_read l d n0 s0) xA σ 0 [some (.ref a0), some (.ref a1)] [] (f_X4_read σ a0 a1) := by
  have hC : vPx (P_X4_read l d n0 s0) cX4_read 2 "NobodyBeenAft$Ship" (some (.object "NobodyBeenAft$Ship")) d := vMX_cx
  refine V_eq (f_X4_read.eq_1 ..) ?_
  refine V_aload_n hC dX4_read_0 rfl ?_
  refine V_aload_n hC dX4_read_1 rfl ?_
  refine V_iconst (v := 2) hC dX4_read_2 rfl ?_
  refine V_iconst (v := 2) hC dX4_read_3 rfl ?_
  refine V_bipush (v := 40) hC dX4_read_4 rfl ?_
  refine V_cko (fun hm => k_X4_15 (As := [.int 2, .int 2, .int 40]) (rest := [.ref a0]) (d' := 7) hC dX4_read_6 hm rfl rfl (Nat.le_of_ble_eq_true rfl) (Nat.le_trans (by decide) hd) (by decide) vMX_l (fun _ h => c_X5_number (Nat.le_refl _) h0 h) (fun r σ_1 => ?_) (fun b σ_2 => ?_))
  · refine p_X4_21 hC dX4_read_9 (fun σ_3 => ?_)
    refine V_let (B := fun k => ∀ (σ_4 : vMem), V (P_X4_read l d n0 s0) xA σ_4 115 [some (.ref a0), some (.ref a1)] [] (k σ_4)) ?_ ?_
    · intro σ_4
      refine V_aload_n hC dX4_read_115 rfl ?_
      refine V_cko (fun hm => k_X4_35 (As := []) (rest := []) (d' := 5) hC dX4_read_116 hm rfl rfl (Nat.le_of_ble_eq_true rfl) (Nat.le_trans (by decide) hd) (by decide) vMX_l (fun _ h => c_X5_needEnd (Nat.le_refl _) h0 h) (fun σ_5 => ?_) (fun b_1 σ_6 => ?_))
      · refine V_aload_n hC dX4_read_119 rfl ?_
        exact V_xareturnA (Or.inl ⟨_, rfl⟩) dX4_read_120 rfl
      · exact VT_outS (by decide) rfl
    · intro k hk
      exact (w_X4_read_12 hd h0 a0 a1 k hk) FU σ_3
  · exact VT_outS (by decide) rfl
theorem c_X4_read {l : Launch} {d : Nat} (hd : 8 ≤ d) (h0 : l.stackTraces = false) {σ : vMem} {a0 : Nat} {a1 : Nat} {r : (Nat × vMem) ⊕ (Nat × vMem)} (h : f_X4_read σ a0 a1 = some r) : vOx l yX4_read (ws_ yX4_read cX4_read 2 (some (.object "NobodyBeenAft$Ship"))) d [.ref a0, .ref a1] σ (xA r) := V_xmethod (em := xA) [some (.ref a0), some (.ref a1)] (by decide +kernel) rfl (Nat.le_of_ble_eq_true rfl) (w_X4_read hd h0 σ a0 a1) h
/-! NobodyBeenAft.ship()I -/
def f_X1_ship (σ : vMem) (a0 : Nat) : Option (Int32 × vMem) := nw σ 4 4 (fun b σ_1 => bv (f_X4_init σ_1 b) (fun σ_2 => cko σ_2 a0 [1] (bd (f_X1_words σ_2 a0 43) (fun b_1 σ_3 => cko σ_3 b [4] (bx (f_X4_read σ_3 b b_1) (fun b_2 σ_4 => cko σ_4 b_2 [4] (cko σ_4 a0 [1] (vl (si σ_4 a0 8 (gi σ_4 b_2 1)) (fun σ_6 => cko σ_6 b_2 [4] (cko σ_6 a0 [1] (vl (si σ_6 a0 9 (gi σ_6 b_2 2)) (fun σ_7 => cko σ_7 b_2 [4] (cko σ_7 a0 [1] (vl (si σ_7 a0 10 (gi σ_7 b_2 3)) (fun σ_8 => cko σ_8 b_2 [4] (dr (gr σ_8 b_2 0) (fun b_4 => cko σ_8 a0 [1] (dr (gr σ_8 a0 4) (fun b_5 => cpyI σ_8 b_4 0 b_5 0 10 (fun σ_9 => cko σ_9 a0 [1] (some ((gi σ_9 a0 9), σ_9))))))))))))))))) (fun b_3 σ_5 => cko σ_5 b_3 [6] (cko σ_5 b_3 [6] (some (((-1) - (gi σ_5 b_3 0)), σ_5)))))))))
abbrev P_X1_ship (l : Launch) (d n0 s0 : Nat) : vX → Prop := vMX l yX1_ship cX1_ship 3 (some .int) [(0, 17, 20, 113)] d n0 s0
theorem w_X1_ship {l : Launch} {d n0 s0 : Nat} (hd : 9 ≤ d) (h0 : l.stackTraces = false) (σ : vMem) (a0 : Nat) : V (P_X1_ship l d n0 s0) nxI σ 0 [some (.ref a0), none, none] [] (f_X1_ship σ a0) := by
  have hC : vPx (P_X1_ship l d n0 s0) cX1_ship 3 "NobodyBeenAft" (some .int) d := vMX_cx
  refine V_eq (f_X1_ship.eq_1 ..) ?_
  refine V_new (c := 4) hC dX1_ship_0 q293 q294 q88 rfl (by decide) in_X4 tyX4 tyX4_ok (by decide +kernel) (fun b σ_1 => ?_)
  refine V_dup hC dX1_ship_3 rfl ?_
  refine V_callIN_V (As := []) (rest := [.ref b]) (d' := 0) hC dX1_ship_4 0 q297 q88 q295 q296 rfl rfl (by decide +kernel) rfl rfl (Nat.le_of_ble_eq_true rfl) (Nat.le_trans (by decide) hd) (by decide) vMX_l (fun _ h => c_X4_init (Nat.le_refl _) h) (fun σ_2 => ?_)
  refine V_aload_n hC dX1_ship_7 rfl ?_
  refine V_bipush (v := 43) hC dX1_ship_8 rfl ?_
  refine V_cko (fun hm => V_callV_A (c := 1) (As := [.int 43]) (rest := [.ref b]) (d' := 1) hC dX1_ship_10 1 (lw_V q316 q318 qs0 q85 q319) (by decide +kernel) (List.mem_singleton.mp hm) (by decide) (by decide) rfl rfl rfl (Nat.le_of_ble_eq_true rfl) (Nat.le_trans (by decide) hd) (by decide) vMX_l (fun _ h => c_X1_words (Nat.le_refl _) h) (fun b_1 σ_3 => ?_))
  refine V_cko (fun hm => V_xcallV_A (c := 4) (As := [.ref b_1]) (rest := []) (d' := 8) hC dX1_ship_13 1 (lw_V q349 q350 q351 q88 q352) (by decide +kernel) (List.mem_singleton.mp hm) (by decide) (by decide) rfl rfl rfl (Nat.le_of_ble_eq_true rfl) (Nat.le_trans (by decide) hd) (by decide) vMX_l (fun _ h => c_X4_read (Nat.le_refl _) h0 h) (fun b_2 σ_4 => ?_) (fun b_3 σ_5 => ?_))
  · refine V_astore_n (ls' := [some (.ref a0), some (.ref b_2), none]) hC dX1_ship_16 (by decide) rfl rfl ?_
    refine V_goto (tgt := 28) hC dX1_ship_17 (by decide) ?_
    refine V_aload_n hC dX1_ship_28 rfl ?_
    refine V_aload_n hC dX1_ship_29 rfl ?_
    refine g_X1_118 hC dX1_ship_30 ?_
    refine p_X1_48 hC dX1_ship_33 (fun σ_6 => ?_)
    refine V_aload_n hC dX1_ship_36 rfl ?_
    refine V_aload_n hC dX1_ship_37 rfl ?_
    refine g_X1_119 hC dX1_ship_38 ?_
    refine p_X1_122 hC dX1_ship_41 (fun σ_7 => ?_)
    refine V_aload_n hC dX1_ship_44 rfl ?_
    refine V_aload_n hC dX1_ship_45 rfl ?_
    refine g_X1_125 hC dX1_ship_46 ?_
    refine p_X1_128 hC dX1_ship_49 (fun σ_8 => ?_)
    refine V_aload_n hC dX1_ship_52 rfl ?_
    refine g_X1_129 hC dX1_ship_53 (fun b_4 => ?_)
    refine V_iconst (v := 0) hC dX1_ship_56 rfl ?_
    refine V_aload_n hC dX1_ship_57 rfl ?_
    refine g_X1_35 hC dX1_ship_58 (fun b_5 => ?_)
    refine V_iconst (v := 0) hC dX1_ship_61 rfl ?_
    refine V_bipush (v := 10) hC dX1_ship_62 rfl ?_
    refine V_cpyI hC dX1_ship_64 q468 q470 q469 q94 (Nat.le_of_ble_eq_true rfl) (fun σ_9 => ?_)
    refine V_aload_n hC dX1_ship_67 rfl ?_
    refine g_X1_122 hC dX1_ship_68 ?_
    exact V_xireturn dX1_ship_71 rfl
  · refine VT_catch hC (by decide) (by decide) (by decide) (by decide) rfl q292 q391 ?_
    refine V_astore_n (ls' := [some (.ref a0), none, some (.ref b_3)]) hC dX1_ship_20 (by decide) rfl rfl ?_
    refine V_iconst (v := (-1)) hC dX1_ship_21 rfl ?_
    refine V_aload_n hC dX1_ship_22 rfl ?_
    refine g_X1_115 hC dX1_ship_23 ?_
    refine V_isub hC dX1_ship_26 ?_
    exact V_xireturn dX1_ship_27 rfl
theorem c_X1_ship {l : Launch} {d : Nat} (hd : 9 ≤ d) (h0 : l.stackTraces = false) {σ : vMem} {a0 : Nat} {r : Int32 × vMem} (h : f_X1_ship σ a0 = some r) : vOx l yX1_ship (wsW_ yX1_ship cX1_ship 3 (some .int) [(0, 17, 20, 113)]) d [.ref a0] σ (nxI r) := V_wmethod (em := nxI) (hh := [(0, 17, 20, 113)]) [some (.ref a0), none, none] (by decide +kernel) rfl (Nat.le_of_ble_eq_true rfl) (w_X1_ship hd h0 σ a0) h
/-! NobodyBeenAft$Lines.<init>()V -/
def f_X7_init (σ : vMem) (a0 : Nat) : Option (vMem) := nwa σ 105 16 (fun b σ_1 => cko σ_1 a0 [8, 9] (vl (sr σ_1 a0 0 (some b)) (fun σ_2 => nwa σ_2 105 16 (fun b_1 σ_3 => cko σ_3 a0 [8, 9] (vl (sr σ_3 a0 1 (some b_1)) (fun σ_4 => some σ_4))))))
abbrev P_X7_init (l : Launch) (d n0 s0 : Nat) : vX → Prop := vMP l yX7_init cX7_init 1 none d n0 s0
theorem w_X7_init {l : Launch} {d n0 s0 : Nat} (hd : 0 ≤ d) (σ : vMem) (a0 : Nat) : V (P_X7_init l d n0 s0) (vEmb eV) σ 0 [some (.ref a0)] [] (f_X7_init σ a0) := by
  have hC : vPx (P_X7_init l d n0 s0) cX7_init 1 "NobodyBeenAft$Lines" none d := vMP_cx
  refine V_eq (f_X7_init.eq_1 ..) ?_
  refine V_aload_n hC dX7_init_0 rfl ?_
  refine V_objInit hC dX7_init_1 q483 q120 q121 (Nat.le_of_ble_eq_true rfl) ?_
  refine V_aload_n hC dX7_init_4 rfl ?_
  refine V_bipush (v := 16) hC dX7_init_5 rfl ?_
  refine V_newa_int hC dX7_init_7 q172 (fun b σ_1 => ?_)
  refine p_X7_9 hC dX7_init_9 (fun X hX => (vMP_n X hX).trans rfl) (fun σ_2 => ?_)
  refine V_aload_n hC dX7_init_12 rfl ?_
  refine V_bipush (v := 16) hC dX7_init_13 rfl ?_
  refine V_newa_int hC dX7_init_15 q172 (fun b_1 σ_3 => ?_)
  refine p_X7_15 hC dX7_init_17 (fun X hX => (vMP_n X hX).trans rfl) (fun σ_4 => ?_)
  exact V_return dX7_init_20 rfl rfl
theorem c_X7_init {l : Launch} {d : Nat} (hd : 0 ≤ d) {σ : vMem} {a0 : Nat} {r : vMem} (h : f_X7_init σ a0 = some r) : vOk l yX7_init cX7_init 1 none d [.ref a0] σ (.inl ((eV).1 r, (eV).2 r)) := V_method (em := eV) [some (.ref a0)] (by decide +kernel) rfl (Nat.le_of_ble_eq_true rfl) (w_X7_init hd σ a0) h
/-! NobodyBeenAft$Stones.<init>()V -/
def f_X8_init (σ : vMem) (a0 : Nat) : Option (vMem) := bv (f_X7_init σ a0) (fun σ_1 => some σ_1)
abbrev P_X8_init (l : Launch) (d n0 s0 : Nat) : vX → Prop := vMP l yX8_init cX8_init 1 none d n0 s0
theorem w_X8_init {l : Launch} {d n0 s0 : Nat} (hd : 1 ≤ d) (σ : vMem) (a0 : Nat) : V (P_X8_init l d n0 s0) (vEmb eV) σ 0 [some (.ref a0)] [] (f_X8_init σ a0) := by
  have hC : vPx (P_X8_init l d n0 s0) cX8_init 1 "NobodyBeenAft$Stones" none d := vMP_cx
  refine V_eq (f_X8_init.eq_1 ..) ?_
  refine V_aload_n hC dX8_init_0 rfl ?_
  refine V_callIN_V (As := []) (rest := []) (d' := 0) hC dX8_init_1 0 q482 q95 q480 q481 rfl rfl (by decide +kernel) rfl rfl (Nat.le_of_ble_eq_true rfl) (Nat.le_trans (by decide) hd) (by decide) vMP_l (fun _ h => c_X7_init (Nat.le_refl _) h) (fun σ_1 => ?_)
  exact V_return dX8_init_4 rfl rfl
theorem c_X8_init {l : Launch} {d : Nat} (hd : 1 ≤ d) {σ : vMem} {a0 : Nat} {r : vMem} (h : f_X8_init σ a0 = some r) : vOk l yX8_init cX8_init 1 none d [.ref a0] σ (.inl ((eV).1 r, (eV).2 r)) := V_method (em := eV) [some (.ref a0)] (by decide +kernel) rfl (Nat.le_of_ble_eq_true rfl) (w_X8_init hd σ a0) h
/-! NobodyBeenAft$Stones.read(LNobodyBeenAft$Words;)V -/
theorem k_X8_19 {α : Type} {P : vX → Prop} {emb : α → vRes} {cc : ByteArray} {nL : Nat} {ret : Option FieldType} {d : Nat} {σ : vMem} {pc : Nat} {ls : List (Option Value)} {st rest : List Value} {t0 : Option ((Int32 × vMem) ⊕ (Nat × vMem))} {f : Int32 → vMem → Option α} {h : Nat → vMem → Option α} {l : Launch} {d' a : Nat} {As : List Value} (hC : vPx P cc nL "NobodyBeenAft$Stones" ret d) (hdg : decode cc pc = .ok (.invokevirtual 19, 3)) (hm : knd σ a ∈ ([5, 10, 11] : List Nat)) (hn : As.length = 3) (hst : st = As.reverse ++ .ref a :: rest) (hroom : (rest.map fun v => v.category).sum ≤ 8) (hd : d' + 1 ≤ d) (hmL : (0 : Nat) ≤ 0) (hl : ∀ X, P X → X.l = l) (hM : ∀ r, t0 = some r → vOx l yX5_number (ws_ yX5_number cX5_number 5 (some .int)) d' (.ref a :: As) σ (xI r)) (kk : ∀ x σ1, V P emb σ1 (pc + 3) ls (.int x :: rest) (f x σ1)) (kx : ∀ b σ1, VT P emb σ1 pc ls b (h b σ1)) : V P emb σ pc ls st (bx t0 f h) := by
  simp only [List.mem_cons, List.not_mem_nil, or_false] at hm
  rcases hm with hk | hk | hk
  · exact V_xcallV_I (c := 5) hC hdg 3 (lw_V q529 q354 q355 q89 q359) (by decide +kernel) hk (by decide) (by decide) rfl hn hst hroom hd (by decide) hl hM kk kx
  · exact V_xcallU_I (C := "NobodyBeenAft$Rule") (owner := "NobodyBeenAft$Words") (c := 10) hC hdg 3 (lw_app (List.forall_mem_cons.mpr ⟨q529, List.forall_mem_cons.mpr ⟨q356, List.forall_mem_cons.mpr ⟨q358, List.forall_mem_cons.mpr ⟨q354, List.forall_mem_cons.mpr ⟨q89, fun _ h => absurd h List.not_mem_nil⟩⟩⟩⟩⟩) (lw_meth q359)) rfl (by decide +kernel) hk (by decide) (by decide) rfl hn hst hroom hd (by decide) hl hM kk kx
  · exact V_xcallU_I (C := "NobodyBeenAft$Log") (owner := "NobodyBeenAft$Words") (c := 11) hC hdg 3 (lw_app (List.forall_mem_cons.mpr ⟨q529, List.forall_mem_cons.mpr ⟨q356, List.forall_mem_cons.mpr ⟨q357, List.forall_mem_cons.mpr ⟨q354, List.forall_mem_cons.mpr ⟨q89, fun _ h => absurd h List.not_mem_nil⟩⟩⟩⟩⟩) (lw_meth q359)) rfl (by decide +kernel) hk (by decide) (by decide) rfl hn hst hroom hd (by decide) hl hM kk kx
theorem k_X8_25 {α : Type} {P : vX → Prop} {emb : α → vRes} {cc : ByteArray} {nL : Nat} {ret : Option FieldType} {d : Nat} {σ : vMem} {pc : Nat} {ls : List (Option Value)} {st rest : List Value} {t0 : Option (Int32 × vMem)} {f : Int32 → vMem → Option α} {l : Launch} {d' a : Nat} {As : List Value} (hC : vPx P cc nL "NobodyBeenAft$Stones" ret d) (hdg : decode cc pc = .ok (.invokevirtual 25, 3)) (hm : knd σ a ∈ ([5, 10, 11] : List Nat)) (hn : As.length = 1) (hst : st = As.reverse ++ .ref a :: rest) (hroom : (rest.map fun v => v.category).sum ≤ 8) (hd : d' + 1 ≤ d) (hmL : (0 : Nat) ≤ 0) (hl : ∀ X, P X → X.l = l) (hM : ∀ r, t0 = some r → vOk l yX5_passes cX5_passes 2 (some .boolean) d' (.ref a :: As) σ (.inl (eI.1 r, eI.2 r))) (kk : ∀ x σ1, V P emb σ1 (pc + 3) ls (.int x :: rest) (f x σ1)) : V P emb σ pc ls st (bd t0 f) := by
  simp only [List.mem_cons, List.not_mem_nil, or_false] at hm
  rcases hm with hk | hk | hk
  · exact V_callV_I (c := 5) hC hdg 1 (lw_V q530 q455 q456 q89 q460) (by decide +kernel) hk (by decide) (by decide) rfl hn hst hroom hd (by decide) hl hM kk
  · exact V_callU_I (C := "NobodyBeenAft$Rule") (owner := "NobodyBeenAft$Words") (c := 10) hC hdg 1 (lw_app (List.forall_mem_cons.mpr ⟨q530, List.forall_mem_cons.mpr ⟨q457, List.forall_mem_cons.mpr ⟨q459, List.forall_mem_cons.mpr ⟨q455, List.forall_mem_cons.mpr ⟨q89, fun _ h => absurd h List.not_mem_nil⟩⟩⟩⟩⟩) (lw_meth q460)) rfl (by decide +kernel) hk (by decide) (by decide) rfl hn hst hroom hd (by decide) hl hM kk
  · exact V_callU_I (C := "NobodyBeenAft$Log") (owner := "NobodyBeenAft$Words") (c := 11) hC hdg 1 (lw_app (List.forall_mem_cons.mpr ⟨q530, List.forall_mem_cons.mpr ⟨q457, List.forall_mem_cons.mpr ⟨q458, List.forall_mem_cons.mpr ⟨q455, List.forall_mem_cons.mpr ⟨q89, fun _ h => absurd h List.not_mem_nil⟩⟩⟩⟩⟩) (lw_meth q460)) rfl (by decide +kernel) hk (by decide) (by decide) rfl hn hst hroom hd (by decide) hl hM kk
theorem k_X8_29 {α : Type} {P : vX → Prop} {emb : α → vRes} {cc : ByteArray} {nL : Nat} {ret : Option FieldType} {d : Nat} {σ : vMem} {pc : Nat} {ls : List (Option Value)} {st rest : List Value} {t0 : Option (vMem ⊕ (Nat × vMem))} {f : vMem → Option α} {h : Nat → vMem → Option α} {l : Launch} {d' a : Nat} {As : List Value} (hC : vPx P cc nL "NobodyBeenAft$Stones" ret d) (hdg : decode cc pc = .ok (.invokevirtual 29, 3)) (hm : knd σ a ∈ ([5, 10, 11] : List Nat)) (hn : As.length = 1) (hst : st = As.reverse ++ .ref a :: rest) (hroom : (rest.map fun v => v.category).sum ≤ 8) (hd : d' + 1 ≤ d) (hmL : (0 : Nat) ≤ 0) (hl : ∀ X, P X → X.l = l) (hM : ∀ r, t0 = some r → vOx l yX5_need (ws_ yX5_need cX5_need 2 none) d' (.ref a :: As) σ (xV r)) (kk : ∀ σ1, V P emb σ1 (pc + 3) ls rest (f σ1)) (kx : ∀ b σ1, VT P emb σ1 pc ls b (h b σ1)) : V P emb σ pc ls st (bxv t0 f h) := by
  simp only [List.mem_cons, List.not_mem_nil, or_false] at hm
  rcases hm with hk | hk | hk
  · exact V_xcallV_V (c := 5) hC hdg 1 (lw_V q531 q383 q384 q89 q388) (by decide +kernel) hk (by decide) (by decide) rfl hn hst hroom hd (by decide) hl hM kk kx
  · exact V_xcallU_V (C := "NobodyBeenAft$Rule") (owner := "NobodyBeenAft$Words") (c := 10) hC hdg 1 (lw_app (List.forall_mem_cons.mpr ⟨q531, List.forall_mem_cons.mpr ⟨q385, List.forall_mem_cons.mpr ⟨q387, List.forall_mem_cons.mpr ⟨q383, List.forall_mem_cons.mpr ⟨q89, fun _ h => absurd h List.not_mem_nil⟩⟩⟩⟩⟩) (lw_meth q388)) rfl (by decide +kernel) hk (by decide) (by decide) rfl hn hst hroom hd (by decide) hl hM kk kx
  · exact V_xcallU_V (C := "NobodyBeenAft$Log") (owner := "NobodyBeenAft$Words") (c := 11) hC hdg 1 (lw_app (List.forall_mem_cons.mpr ⟨q531, List.forall_mem_cons.mpr ⟨q385, List.forall_mem_cons.mpr ⟨q386, List.forall_mem_cons.mpr ⟨q383, List.forall_mem_cons.mpr ⟨q89, fun _ h => absurd h List.not_mem_nil⟩⟩⟩⟩⟩) (lw_meth q388)) rfl (by decide +kernel) hk (by decide) (by decide) rfl hn hst hroom hd (by decide) hl hM kk kx
theorem k_X8_36 {α : Type} {P : vX → Prop} {emb : α → vRes} {cc : ByteArray} {nL : Nat} {ret : Option FieldType} {d : Nat} {σ : vMem} {pc : Nat} {ls : List (Option Value)} {st rest : List Value} {t0 : Option ((Int32 × vMem) ⊕ (Nat × vMem))} {f : Int32 → vMem → Option α} {h : Nat → vMem → Option α} {l : Launch} {d' a : Nat} {As : List Value} (hC : vPx P cc nL "NobodyBeenAft$Stones" ret d) (hdg : decode cc pc = .ok (.invokevirtual 36, 3)) (hm : knd σ a ∈ ([5, 10, 11] : List Nat)) (hn : As.length = 2) (hst : st = As.reverse ++ .ref a :: rest) (hroom : (rest.map fun v => v.category).sum ≤ 8) (hd : d' + 1 ≤ d) (hmL : (0 : Nat) ≤ 0) (hl : ∀ X, P X → X.l = l) (hM : ∀ r, t0 = some r → vOx l yX5_digit (ws_ yX5_digit cX5_digit 3 (some .int)) d' (.ref a :: As) σ (xI r)) (kk : ∀ x σ1, V P emb σ1 (pc + 3) ls (.int x :: rest) (f x σ1)) (kx : ∀ b σ1, VT P emb σ1 pc ls b (h b σ1)) : V P emb σ pc ls st (bx t0 f h) := by
  simp only [List.mem_cons, List.not_mem_nil, or_false] at hm
  rcases hm with hk | hk | hk
  · exact V_xcallV_I (c := 5) hC hdg 2 (lw_V q532 q368 q369 q89 q373) (by decide +kernel) hk (by decide) (by decide) rfl hn hst hroom hd (by decide) hl hM kk kx
  · exact V_xcallU_I (C := "NobodyBeenAft$Rule") (owner := "NobodyBeenAft$Words") (c := 10) hC hdg 2 (lw_app (List.forall_mem_cons.mpr ⟨q532, List.forall_mem_cons.mpr ⟨q370, List.forall_mem_cons.mpr ⟨q372, List.forall_mem_cons.mpr ⟨q368, List.forall_mem_cons.mpr ⟨q89, fun _ h => absurd h List.not_mem_nil⟩⟩⟩⟩⟩) (lw_meth q373)) rfl (by decide +kernel) hk (by decide) (by decide) rfl hn hst hroom hd (by decide) hl hM kk kx
  · exact V_xcallU_I (C := "NobodyBeenAft$Log") (owner := "NobodyBeenAft$Words") (c := 11) hC hdg 2 (lw_app (List.forall_mem_cons.mpr ⟨q532, List.forall_mem_cons.mpr ⟨q370, List.forall_mem_cons.mpr ⟨q371, List.forall_mem_cons.mpr ⟨q368, List.forall_mem_cons.mpr ⟨q89, fun _ h => absurd h List.not_mem_nil⟩⟩⟩⟩⟩) (lw_meth q373)) rfl (by decide +kernel) hk (by decide) (by decide) rfl hn hst hroom hd (by decide) hl hM kk kx
def f_X8_read (σ : vMem) (a0 : Nat) (a1 : Nat) : Option (vMem ⊕ (Nat × vMem)) := cko σ a0 [8] (dr (gr σ a0 0) (fun b => cko σ a0 [8] (cko σ a1 [5, 10, 11] (bx (f_X5_number σ a1 3 1 999) (fun r σ_1 => cka σ_1 b 105 (gi σ a0 2) (vl (si σ_1 b (Int32.toNatClampNeg (gi σ a0 2)) r) (fun σ_3 => cko σ_3 a1 [5, 10, 11] (bd (f_X5_passes σ_3 a1 44) (fun r_1 σ_4 => cko σ_4 a1 [5, 10, 11] (bxv (f_X5_need σ_4 a1 r_1) (fun σ_5 => cko σ_5 a0 [8] (dr (gr σ_5 a0 1) (fun b_3 => cko σ_5 a0 [8] (cko σ_5 a1 [5, 10, 11] (bx (f_X5_digit σ_5 a1 0 8) (fun r_2 σ_7 => cka σ_7 b_3 105 (gi σ_5 a0 2) (vl (si σ_7 b_3 (Int32.toNatClampNeg (gi σ_5 a0 2)) r_2) (fun σ_9 => some (.inl σ_9)))) (fun b_4 σ_8 => cko σ_8 b_4 [6, 17, 18] (some (.inr (b_4, σ_8))))))))) (fun b_2 σ_6 => cko σ_6 b_2 [6, 17, 18] (some (.inr (b_2, σ_6)))))))))) (fun b_1 σ_2 => cko σ_2 b_1 [6, 17, 18] (some (.inr (b_1, σ_2))))))))
abbrev P_X8_read (l : Launch) (d n0 s0 : Nat) : vX → Prop := vMX l yX8_read cX8_read 2 none [] d n0 s0
theorem w_X8_read {l : Launch} {d n0 s0 : Nat} (hd : 8 ≤ d) (h0 : l.stackTraces = false) (σ : vMem) (a0 : Nat) (a1 : Nat) : V (P_X8_read l d n0 s0) xV σ 0 [some (.ref a0), some (.ref a1)] [] (f_X8_read σ a0 a1) := by
  have hC : vPx (P_X8_read l d n0 s0) cX8_read 2 "NobodyBeenAft$Stones" none d := vMX_cx
  refine V_eq (f_X8_read.eq_1 ..) ?_
  refine V_aload_n hC dX8_read_0 rfl ?_
  refine g_X8_9 hC dX8_read_1 (fun b => ?_)
  refine V_aload_n hC dX8_read_4 rfl ?_
  refine g_X8_15 hC dX8_read_5 ?_
  refine V_aload_n hC dX8_read_8 rfl ?_
  refine V_iconst (v := 3) hC dX8_read_9 rfl ?_
  refine V_iconst (v := 1) hC dX8_read_10 rfl ?_
  refine V_sipush (v := 999) hC dX8_read_11 rfl ?_
  refine V_cko (fun hm => k_X8_19 (As := [.int 3, .int 1, .int 999]) (rest := [.int (gi σ a0 2), .ref b]) (d' := 7) hC dX8_read_14 hm rfl rfl (Nat.le_of_ble_eq_true rfl) (Nat.le_trans (by decide) hd) (by decide) vMX_l (fun _ h => c_X5_number (Nat.le_refl _) h0 h) (fun r σ_1 => ?_) (fun b_1 σ_2 => ?_))
  · refine V_iast hC dX8_read_17 (fun σ_3 => ?_)
    refine V_aload_n hC dX8_read_18 rfl ?_
    refine V_aload_n hC dX8_read_19 rfl ?_
    refine V_bipush (v := 44) hC dX8_read_20 rfl ?_
    refine V_cko (fun hm => k_X8_25 (As := [.int 44]) (rest := [.ref a1]) (d' := 1) hC dX8_read_22 hm rfl rfl (Nat.le_of_ble_eq_true rfl) (Nat.le_trans (by decide) hd) (by decide) vMX_l (fun _ h => c_X5_passes (Nat.le_refl _) h) (fun r_1 σ_4 => ?_))
    refine V_cko (fun hm => k_X8_29 (As := [.int r_1]) (rest := []) (d' := 4) hC dX8_read_25 hm rfl rfl (Nat.le_of_ble_eq_true rfl) (Nat.le_trans (by decide) hd) (by decide) vMX_l (fun _ h => c_X5_need (Nat.le_refl _) h0 h) (fun σ_5 => ?_) (fun b_2 σ_6 => ?_))
    · refine V_aload_n hC dX8_read_28 rfl ?_
      refine g_X8_33 hC dX8_read_29 (fun b_3 => ?_)
      refine V_aload_n hC dX8_read_32 rfl ?_
      refine g_X8_15 hC dX8_read_33 ?_
      refine V_aload_n hC dX8_read_36 rfl ?_
      refine V_iconst (v := 0) hC dX8_read_37 rfl ?_
      refine V_bipush (v := 8) hC dX8_read_38 rfl ?_
      refine V_cko (fun hm => k_X8_36 (As := [.int 0, .int 8]) (rest := [.int (gi σ_5 a0 2), .ref b_3]) (d' := 5) hC dX8_read_40 hm rfl rfl (Nat.le_of_ble_eq_true rfl) (Nat.le_trans (by decide) hd) (by decide) vMX_l (fun _ h => c_X5_digit (Nat.le_refl _) h0 h) (fun r_2 σ_7 => ?_) (fun b_4 σ_8 => ?_))
      · refine V_iast hC dX8_read_43 (fun σ_9 => ?_)
        exact V_xreturn dX8_read_44 rfl
      · exact VT_outS (by decide) rfl
    · exact VT_outS (by decide) rfl
  · exact VT_outS (by decide) rfl
theorem c_X8_read {l : Launch} {d : Nat} (hd : 8 ≤ d) (h0 : l.stackTraces = false) {σ : vMem} {a0 : Nat} {a1 : Nat} {r : vMem ⊕ (Nat × vMem)} (h : f_X8_read σ a0 a1 = some r) : vOx l yX8_read (ws_ yX8_read cX8_read 2 none) d [.ref a0, .ref a1] σ (xV r) := V_xmethod (em := xV) [some (.ref a0), some (.ref a1)] (by decide +kernel) rfl (Nat.le_of_ble_eq_true rfl) (w_X8_read hd h0 σ a0 a1) h
/-! NobodyBeenAft$Pots.read(LNobodyBeenAft$Words;)V -/
theorem k_X9_17 {α : Type} {P : vX → Prop} {emb : α → vRes} {cc : ByteArray} {nL : Nat} {ret : Option FieldType} {d : Nat} {σ : vMem} {pc : Nat} {ls : List (Option Value)} {st rest : List Value} {t0 : Option ((Int32 × vMem) ⊕ (Nat × vMem))} {f : Int32 → vMem → Option α} {h : Nat → vMem → Option α} {l : Launch} {d' a : Nat} {As : List Value} (hC : vPx P cc nL "NobodyBeenAft$Pots" ret d) (hdg : decode cc pc = .ok (.invokevirtual 17, 3)) (hm : knd σ a ∈ ([5, 10, 11] : List Nat)) (hn : As.length = 1) (hst : st = As.reverse ++ .ref a :: rest) (hroom : (rest.map fun v => v.category).sum ≤ 8) (hd : d' + 1 ≤ d) (hmL : (0 : Nat) ≤ 0) (hl : ∀ X, P X → X.l = l) (hM : ∀ r, t0 = some r → vOx l yX5_number_2 (ws_ yX5_number_2 cX5_number_2 4 (some .int)) d' (.ref a :: As) σ (xI r)) (kk : ∀ x σ1, V P emb σ1 (pc + 3) ls (.int x :: rest) (f x σ1)) (kx : ∀ b σ1, VT P emb σ1 pc ls b (h b σ1)) : V P emb σ pc ls st (bx t0 f h) := by
  simp only [List.mem_cons, List.not_mem_nil, or_false] at hm
  rcases hm with hk | hk | hk
  · exact V_xcallV_I (c := 5) hC hdg 1 (lw_V q522 q361 q362 q89 q366) (by decide +kernel) hk (by decide) (by decide) rfl hn hst hroom hd (by decide) hl hM kk kx
  · exact V_xcallU_I (C := "NobodyBeenAft$Rule") (owner := "NobodyBeenAft$Words") (c := 10) hC hdg 1 (lw_app (List.forall_mem_cons.mpr ⟨q522, List.forall_mem_cons.mpr ⟨q363, List.forall_mem_cons.mpr ⟨q365, List.forall_mem_cons.mpr ⟨q361, List.forall_mem_cons.mpr ⟨q89, fun _ h => absurd h List.not_mem_nil⟩⟩⟩⟩⟩) (lw_meth q366)) rfl (by decide +kernel) hk (by decide) (by decide) rfl hn hst hroom hd (by decide) hl hM kk kx
  · exact V_xcallU_I (C := "NobodyBeenAft$Log") (owner := "NobodyBeenAft$Words") (c := 11) hC hdg 1 (lw_app (List.forall_mem_cons.mpr ⟨q522, List.forall_mem_cons.mpr ⟨q363, List.forall_mem_cons.mpr ⟨q364, List.forall_mem_cons.mpr ⟨q361, List.forall_mem_cons.mpr ⟨q89, fun _ h => absurd h List.not_mem_nil⟩⟩⟩⟩⟩) (lw_meth q366)) rfl (by decide +kernel) hk (by decide) (by decide) rfl hn hst hroom hd (by decide) hl hM kk kx
theorem k_X9_23 {α : Type} {P : vX → Prop} {emb : α → vRes} {cc : ByteArray} {nL : Nat} {ret : Option FieldType} {d : Nat} {σ : vMem} {pc : Nat} {ls : List (Option Value)} {st rest : List Value} {t0 : Option (Int32 × vMem)} {f : Int32 → vMem → Option α} {l : Launch} {d' a : Nat} {As : List Value} (hC : vPx P cc nL "NobodyBeenAft$Pots" ret d) (hdg : decode cc pc = .ok (.invokevirtual 23, 3)) (hm : knd σ a ∈ ([5, 10, 11] : List Nat)) (hn : As.length = 1) (hst : st = As.reverse ++ .ref a :: rest) (hroom : (rest.map fun v => v.category).sum ≤ 8) (hd : d' + 1 ≤ d) (hmL : (0 : Nat) ≤ 0) (hl : ∀ X, P X → X.l = l) (hM : ∀ r, t0 = some r → vOk l yX5_passes cX5_passes 2 (some .boolean) d' (.ref a :: As) σ (.inl (eI.1 r, eI.2 r))) (kk : ∀ x σ1, V P emb σ1 (pc + 3) ls (.int x :: rest) (f x σ1)) : V P emb σ pc ls st (bd t0 f) := by
  simp only [List.mem_cons, List.not_mem_nil, or_false] at hm
  rcases hm with hk | hk | hk
  · exact V_callV_I (c := 5) hC hdg 1 (lw_V q523 q455 q456 q89 q460) (by decide +kernel) hk (by decide) (by decide) rfl hn hst hroom hd (by decide) hl hM kk
  · exact V_callU_I (C := "NobodyBeenAft$Rule") (owner := "NobodyBeenAft$Words") (c := 10) hC hdg 1 (lw_app (List.forall_mem_cons.mpr ⟨q523, List.forall_mem_cons.mpr ⟨q457, List.forall_mem_cons.mpr ⟨q459, List.forall_mem_cons.mpr ⟨q455, List.forall_mem_cons.mpr ⟨q89, fun _ h => absurd h List.not_mem_nil⟩⟩⟩⟩⟩) (lw_meth q460)) rfl (by decide +kernel) hk (by decide) (by decide) rfl hn hst hroom hd (by decide) hl hM kk
  · exact V_callU_I (C := "NobodyBeenAft$Log") (owner := "NobodyBeenAft$Words") (c := 11) hC hdg 1 (lw_app (List.forall_mem_cons.mpr ⟨q523, List.forall_mem_cons.mpr ⟨q457, List.forall_mem_cons.mpr ⟨q458, List.forall_mem_cons.mpr ⟨q455, List.forall_mem_cons.mpr ⟨q89, fun _ h => absurd h List.not_mem_nil⟩⟩⟩⟩⟩) (lw_meth q460)) rfl (by decide +kernel) hk (by decide) (by decide) rfl hn hst hroom hd (by decide) hl hM kk
theorem k_X9_27 {α : Type} {P : vX → Prop} {emb : α → vRes} {cc : ByteArray} {nL : Nat} {ret : Option FieldType} {d : Nat} {σ : vMem} {pc : Nat} {ls : List (Option Value)} {st rest : List Value} {t0 : Option (vMem ⊕ (Nat × vMem))} {f : vMem → Option α} {h : Nat → vMem → Option α} {l : Launch} {d' a : Nat} {As : List Value} (hC : vPx P cc nL "NobodyBeenAft$Pots" ret d) (hdg : decode cc pc = .ok (.invokevirtual 27, 3)) (hm : knd σ a ∈ ([5, 10, 11] : List Nat)) (hn : As.length = 1) (hst : st = As.reverse ++ .ref a :: rest) (hroom : (rest.map fun v => v.category).sum ≤ 8) (hd : d' + 1 ≤ d) (hmL : (0 : Nat) ≤ 0) (hl : ∀ X, P X → X.l = l) (hM : ∀ r, t0 = some r → vOx l yX5_need (ws_ yX5_need cX5_need 2 none) d' (.ref a :: As) σ (xV r)) (kk : ∀ σ1, V P emb σ1 (pc + 3) ls rest (f σ1)) (kx : ∀ b σ1, VT P emb σ1 pc ls b (h b σ1)) : V P emb σ pc ls st (bxv t0 f h) := by
  simp only [List.mem_cons, List.not_mem_nil, or_false] at hm
  rcases hm with hk | hk | hk
  · exact V_xcallV_V (c := 5) hC hdg 1 (lw_V q524 q383 q384 q89 q388) (by decide +kernel) hk (by decide) (by decide) rfl hn hst hroom hd (by decide) hl hM kk kx
  · exact V_xcallU_V (C := "NobodyBeenAft$Rule") (owner := "NobodyBeenAft$Words") (c := 10) hC hdg 1 (lw_app (List.forall_mem_cons.mpr ⟨q524, List.forall_mem_cons.mpr ⟨q385, List.forall_mem_cons.mpr ⟨q387, List.forall_mem_cons.mpr ⟨q383, List.forall_mem_cons.mpr ⟨q89, fun _ h => absurd h List.not_mem_nil⟩⟩⟩⟩⟩) (lw_meth q388)) rfl (by decide +kernel) hk (by decide) (by decide) rfl hn hst hroom hd (by decide) hl hM kk kx
  · exact V_xcallU_V (C := "NobodyBeenAft$Log") (owner := "NobodyBeenAft$Words") (c := 11) hC hdg 1 (lw_app (List.forall_mem_cons.mpr ⟨q524, List.forall_mem_cons.mpr ⟨q385, List.forall_mem_cons.mpr ⟨q386, List.forall_mem_cons.mpr ⟨q383, List.forall_mem_cons.mpr ⟨q89, fun _ h => absurd h List.not_mem_nil⟩⟩⟩⟩⟩) (lw_meth q388)) rfl (by decide +kernel) hk (by decide) (by decide) rfl hn hst hroom hd (by decide) hl hM kk kx
theorem k_X9_34 {α : Type} {P : vX → Prop} {emb : α → vRes} {cc : ByteArray} {nL : Nat} {ret : Option FieldType} {d : Nat} {σ : vMem} {pc : Nat} {ls : List (Option Value)} {st rest : List Value} {t0 : Option ((Int32 × vMem) ⊕ (Nat × vMem))} {f : Int32 → vMem → Option α} {h : Nat → vMem → Option α} {l : Launch} {d' a : Nat} {As : List Value} (hC : vPx P cc nL "NobodyBeenAft$Pots" ret d) (hdg : decode cc pc = .ok (.invokevirtual 34, 3)) (hm : knd σ a ∈ ([5, 10, 11] : List Nat)) (hn : As.length = 2) (hst : st = As.reverse ++ .ref a :: rest) (hroom : (rest.map fun v => v.category).sum ≤ 8) (hd : d' + 1 ≤ d) (hmL : (0 : Nat) ≤ 0) (hl : ∀ X, P X → X.l = l) (hM : ∀ r, t0 = some r → vOx l yX5_digit (ws_ yX5_digit cX5_digit 3 (some .int)) d' (.ref a :: As) σ (xI r)) (kk : ∀ x σ1, V P emb σ1 (pc + 3) ls (.int x :: rest) (f x σ1)) (kx : ∀ b σ1, VT P emb σ1 pc ls b (h b σ1)) : V P emb σ pc ls st (bx t0 f h) := by
  simp only [List.mem_cons, List.not_mem_nil, or_false] at hm
  rcases hm with hk | hk | hk
  · exact V_xcallV_I (c := 5) hC hdg 2 (lw_V q525 q368 q369 q89 q373) (by decide +kernel) hk (by decide) (by decide) rfl hn hst hroom hd (by decide) hl hM kk kx
  · exact V_xcallU_I (C := "NobodyBeenAft$Rule") (owner := "NobodyBeenAft$Words") (c := 10) hC hdg 2 (lw_app (List.forall_mem_cons.mpr ⟨q525, List.forall_mem_cons.mpr ⟨q370, List.forall_mem_cons.mpr ⟨q372, List.forall_mem_cons.mpr ⟨q368, List.forall_mem_cons.mpr ⟨q89, fun _ h => absurd h List.not_mem_nil⟩⟩⟩⟩⟩) (lw_meth q373)) rfl (by decide +kernel) hk (by decide) (by decide) rfl hn hst hroom hd (by decide) hl hM kk kx
  · exact V_xcallU_I (C := "NobodyBeenAft$Log") (owner := "NobodyBeenAft$Words") (c := 11) hC hdg 2 (lw_app (List.forall_mem_cons.mpr ⟨q525, List.forall_mem_cons.mpr ⟨q370, List.forall_mem_cons.mpr ⟨q371, List.forall_mem_cons.mpr ⟨q368, List.forall_mem_cons.mpr ⟨q89, fun _ h => absurd h List.not_mem_nil⟩⟩⟩⟩⟩) (lw_meth q373)) rfl (by decide +kernel) hk (by decide) (by decide) rfl hn hst hroom hd (by decide) hl hM kk kx
def f_X9_read (σ : vMem) (a0 : Nat) (a1 : Nat) : Option (vMem ⊕ (Nat × vMem)) := cko σ a0 [9] (dr (gr σ a0 0) (fun b => cko σ a0 [9] (cko σ a1 [5, 10, 11] (bx (f_X5_number_2 σ a1 2) (fun r σ_1 => cka σ_1 b 105 (gi σ a0 2) (vl (si σ_1 b (Int32.toNatClampNeg (gi σ a0 2)) r) (fun σ_3 => cko σ_3 a1 [5, 10, 11] (bd (f_X5_passes σ_3 a1 42) (fun r_1 σ_4 => cko σ_4 a1 [5, 10, 11] (bxv (f_X5_need σ_4 a1 r_1) (fun σ_5 => cko σ_5 a0 [9] (dr (gr σ_5 a0 1) (fun b_3 => cko σ_5 a0 [9] (cko σ_5 a1 [5, 10, 11] (bx (f_X5_digit σ_5 a1 0 9) (fun r_2 σ_7 => cka σ_7 b_3 105 (gi σ_5 a0 2) (vl (si σ_7 b_3 (Int32.toNatClampNeg (gi σ_5 a0 2)) r_2) (fun σ_9 => some (.inl σ_9)))) (fun b_4 σ_8 => cko σ_8 b_4 [6, 17, 18] (some (.inr (b_4, σ_8))))))))) (fun b_2 σ_6 => cko σ_6 b_2 [6, 17, 18] (some (.inr (b_2, σ_6)))))))))) (fun b_1 σ_2 => cko σ_2 b_1 [6, 17, 18] (some (.inr (b_1, σ_2))))))))
abbrev P_X9_read (l : Launch) (d n0 s0 : Nat) : vX → Prop := vMX l yX9_read cX9_read 2 none [] d n0 s0
theorem w_X9_read {l : Launch} {d n0 s0 : Nat} (hd : 7 ≤ d) (h0 : l.stackTraces = false) (σ : vMem) (a0 : Nat) (a1 : Nat) : V (P_X9_read l d n0 s0) xV σ 0 [some (.ref a0), some (.ref a1)] [] (f_X9_read σ a0 a1) := by
  have hC : vPx (P_X9_read l d n0 s0) cX9_read 2 "NobodyBeenAft$Pots" none d := vMX_cx
  refine V_eq (f_X9_read.eq_1 ..) ?_
  refine V_aload_n hC dX9_read_0 rfl ?_
  refine g_X9_7 hC dX9_read_1 (fun b => ?_)
  refine V_aload_n hC dX9_read_4 rfl ?_
  refine g_X9_13 hC dX9_read_5 ?_
  refine V_aload_n hC dX9_read_8 rfl ?_
  refine V_iconst (v := 2) hC dX9_read_9 rfl ?_
  refine V_cko (fun hm => k_X9_17 (As := [.int 2]) (rest := [.int (gi σ a0 2), .ref b]) (d' := 6) hC dX9_read_10 hm rfl rfl (Nat.le_of_ble_eq_true rfl) (Nat.le_trans (by decide) hd) (by decide) vMX_l (fun _ h => c_X5_number_2 (Nat.le_refl _) h0 h) (fun r σ_1 => ?_) (fun b_1 σ_2 => ?_))
  · refine V_iast hC dX9_read_13 (fun σ_3 => ?_)
    refine V_aload_n hC dX9_read_14 rfl ?_
    refine V_aload_n hC dX9_read_15 rfl ?_
    refine V_bipush (v := 42) hC dX9_read_16 rfl ?_
    refine V_cko (fun hm => k_X9_23 (As := [.int 42]) (rest := [.ref a1]) (d' := 1) hC dX9_read_18 hm rfl rfl (Nat.le_of_ble_eq_true rfl) (Nat.le_trans (by decide) hd) (by decide) vMX_l (fun _ h => c_X5_passes (Nat.le_refl _) h) (fun r_1 σ_4 => ?_))
    refine V_cko (fun hm => k_X9_27 (As := [.int r_1]) (rest := []) (d' := 4) hC dX9_read_21 hm rfl rfl (Nat.le_of_ble_eq_true rfl) (Nat.le_trans (by decide) hd) (by decide) vMX_l (fun _ h => c_X5_need (Nat.le_refl _) h0 h) (fun σ_5 => ?_) (fun b_2 σ_6 => ?_))
    · refine V_aload_n hC dX9_read_24 rfl ?_
      refine g_X9_31 hC dX9_read_25 (fun b_3 => ?_)
      refine V_aload_n hC dX9_read_28 rfl ?_
      refine g_X9_13 hC dX9_read_29 ?_
      refine V_aload_n hC dX9_read_32 rfl ?_
      refine V_iconst (v := 0) hC dX9_read_33 rfl ?_
      refine V_bipush (v := 9) hC dX9_read_34 rfl ?_
      refine V_cko (fun hm => k_X9_34 (As := [.int 0, .int 9]) (rest := [.int (gi σ_5 a0 2), .ref b_3]) (d' := 5) hC dX9_read_36 hm rfl rfl (Nat.le_of_ble_eq_true rfl) (Nat.le_trans (by decide) hd) (by decide) vMX_l (fun _ h => c_X5_digit (Nat.le_refl _) h0 h) (fun r_2 σ_7 => ?_) (fun b_4 σ_8 => ?_))
      · refine V_iast hC dX9_read_39 (fun σ_9 => ?_)
        exact V_xreturn dX9_read_40 rfl
      · exact VT_outS (by decide) rfl
    · exact VT_outS (by decide) rfl
  · exact VT_outS (by decide) rfl
theorem c_X9_read {l : Launch} {d : Nat} (hd : 7 ≤ d) (h0 : l.stackTraces = false) {σ : vMem} {a0 : Nat} {a1 : Nat} {r : vMem ⊕ (Nat × vMem)} (h : f_X9_read σ a0 a1 = some r) : vOx l yX9_read (ws_ yX9_read cX9_read 2 none) d [.ref a0, .ref a1] σ (xV r) := V_xmethod (em := xV) [some (.ref a0), some (.ref a1)] (by decide +kernel) rfl (Nat.le_of_ble_eq_true rfl) (w_X9_read hd h0 σ a0 a1) h
/-! NobodyBeenAft$Lines.readAll(LNobodyBeenAft$Words;I)I -/
theorem k_X7_39 {α : Type} {P : vX → Prop} {emb : α → vRes} {cc : ByteArray} {nL : Nat} {ret : Option FieldType} {d : Nat} {σ : vMem} {pc : Nat} {ls : List (Option Value)} {st rest : List Value} {t0 : Option (vMem ⊕ (Nat × vMem))} {f : vMem → Option α} {h : Nat → vMem → Option α} {l : Launch} {d' a : Nat} {As : List Value} (hC : vPx P cc nL "NobodyBeenAft$Lines" ret d) (hdg : decode cc pc = .ok (.invokevirtual 39, 3)) (hm : knd σ a ∈ ([5, 10, 11] : List Nat)) (hn : As.length = 0) (hst : st = As.reverse ++ .ref a :: rest) (hroom : (rest.map fun v => v.category).sum ≤ 8) (hd : d' + 1 ≤ d) (hmL : (0 : Nat) ≤ 0) (hl : ∀ X, P X → X.l = l) (hM : ∀ r, t0 = some r → vOx l yX5_needEnd (ws_ yX5_needEnd cX5_needEnd 1 none) d' (.ref a :: As) σ (xV r)) (kk : ∀ σ1, V P emb σ1 (pc + 3) ls rest (f σ1)) (kx : ∀ b σ1, VT P emb σ1 pc ls b (h b σ1)) : V P emb σ pc ls st (bxv t0 f h) := by
  simp only [List.mem_cons, List.not_mem_nil, or_false] at hm
  rcases hm with hk | hk | hk
  · exact V_xcallV_V (c := 5) hC hdg 0 (lw_V q534 q462 q463 q89 q467) (by decide +kernel) hk (by decide) (by decide) rfl hn hst hroom hd (by decide) hl hM kk kx
  · exact V_xcallU_V (C := "NobodyBeenAft$Rule") (owner := "NobodyBeenAft$Words") (c := 10) hC hdg 0 (lw_app (List.forall_mem_cons.mpr ⟨q534, List.forall_mem_cons.mpr ⟨q464, List.forall_mem_cons.mpr ⟨q466, List.forall_mem_cons.mpr ⟨q462, List.forall_mem_cons.mpr ⟨q89, fun _ h => absurd h List.not_mem_nil⟩⟩⟩⟩⟩) (lw_meth q467)) rfl (by decide +kernel) hk (by decide) (by decide) rfl hn hst hroom hd (by decide) hl hM kk kx
  · exact V_xcallU_V (C := "NobodyBeenAft$Log") (owner := "NobodyBeenAft$Words") (c := 11) hC hdg 0 (lw_app (List.forall_mem_cons.mpr ⟨q534, List.forall_mem_cons.mpr ⟨q464, List.forall_mem_cons.mpr ⟨q465, List.forall_mem_cons.mpr ⟨q462, List.forall_mem_cons.mpr ⟨q89, fun _ h => absurd h List.not_mem_nil⟩⟩⟩⟩⟩) (lw_meth q467)) rfl (by decide +kernel) hk (by decide) (by decide) rfl hn hst hroom hd (by decide) hl hM kk kx
theorem k_X7_27 {α : Type} {P : vX → Prop} {emb : α → vRes} {cc : ByteArray} {nL : Nat} {ret : Option FieldType} {d : Nat} {σ : vMem} {pc : Nat} {ls : List (Option Value)} {st rest : List Value} {t0 : Option (vMem ⊕ (Nat × vMem))} {f : vMem → Option α} {h : Nat → vMem → Option α} {l : Launch} {d' a : Nat} {As : List Value} (hC : vPx P cc nL "NobodyBeenAft$Lines" ret d) (hdg : decode cc pc = .ok (.invokevirtual 27, 3)) (hm : knd σ a ∈ ([5, 10, 11] : List Nat)) (hn : As.length = 1) (hst : st = As.reverse ++ .ref a :: rest) (hroom : (rest.map fun v => v.category).sum ≤ 8) (hd : d' + 1 ≤ d) (hmL : (0 : Nat) ≤ 0) (hl : ∀ X, P X → X.l = l) (hM : ∀ r, t0 = some r → vOx l yX5_need (ws_ yX5_need cX5_need 2 none) d' (.ref a :: As) σ (xV r)) (kk : ∀ σ1, V P emb σ1 (pc + 3) ls rest (f σ1)) (kx : ∀ b σ1, VT P emb σ1 pc ls b (h b σ1)) : V P emb σ pc ls st (bxv t0 f h) := by
  simp only [List.mem_cons, List.not_mem_nil, or_false] at hm
  rcases hm with hk | hk | hk
  · exact V_xcallV_V (c := 5) hC hdg 1 (lw_V q515 q383 q384 q89 q388) (by decide +kernel) hk (by decide) (by decide) rfl hn hst hroom hd (by decide) hl hM kk kx
  · exact V_xcallU_V (C := "NobodyBeenAft$Rule") (owner := "NobodyBeenAft$Words") (c := 10) hC hdg 1 (lw_app (List.forall_mem_cons.mpr ⟨q515, List.forall_mem_cons.mpr ⟨q385, List.forall_mem_cons.mpr ⟨q387, List.forall_mem_cons.mpr ⟨q383, List.forall_mem_cons.mpr ⟨q89, fun _ h => absurd h List.not_mem_nil⟩⟩⟩⟩⟩) (lw_meth q388)) rfl (by decide +kernel) hk (by decide) (by decide) rfl hn hst hroom hd (by decide) hl hM kk kx
  · exact V_xcallU_V (C := "NobodyBeenAft$Log") (owner := "NobodyBeenAft$Words") (c := 11) hC hdg 1 (lw_app (List.forall_mem_cons.mpr ⟨q515, List.forall_mem_cons.mpr ⟨q385, List.forall_mem_cons.mpr ⟨q386, List.forall_mem_cons.mpr ⟨q383, List.forall_mem_cons.mpr ⟨q89, fun _ h => absurd h List.not_mem_nil⟩⟩⟩⟩⟩) (lw_meth q388)) rfl (by decide +kernel) hk (by decide) (by decide) rfl hn hst hroom hd (by decide) hl hM kk kx
theorem k_X7_31 {α : Type} {P : vX → Prop} {emb : α → vRes} {cc : ByteArray} {nL : Nat} {ret : Option FieldType} {d : Nat} {σ : vMem} {pc : Nat} {ls : List (Option Value)} {st rest : List Value} {t0 : Option (vMem ⊕ (Nat × vMem))} {f : vMem → Option α} {h : Nat → vMem → Option α} {l : Launch} {d' a : Nat} {As : List Value} (hC : vPx P cc nL "NobodyBeenAft$Lines" ret d) (hdg : decode cc pc = .ok (.invokevirtual 31, 3)) (hm : knd σ a ∈ ([8, 9] : List Nat)) (hn : As.length = 1) (hst : st = As.reverse ++ .ref a :: rest) (hroom : (rest.map fun v => v.category).sum ≤ 8) (hd : d' + 1 ≤ d) (hl : ∀ X, P X → X.l = l) (h8 : knd σ a = 8 → ∀ r, t0 = some r → vOx l yX8_read (ws_ yX8_read cX8_read 2 none) d' (.ref a :: As) σ (xV r)) (h9 : knd σ a = 9 → ∀ r, t0 = some r → vOx l yX9_read (ws_ yX9_read cX9_read 2 none) d' (.ref a :: As) σ (xV r)) (kk : ∀ σ1, V P emb σ1 (pc + 3) ls rest (f σ1)) (kx : ∀ b σ1, VT P emb σ1 pc ls b (h b σ1)) : V P emb σ pc ls st (bxv t0 f h) := by
  simp only [List.mem_cons, List.not_mem_nil, or_false] at hm
  rcases hm with hk | hk
  · exact V_xcallA_V (C := "NobodyBeenAft$Stones") (owner := "NobodyBeenAft$Lines") (c := 8) hC hdg 1 (lw_app (List.forall_mem_cons.mpr ⟨q516, List.forall_mem_cons.mpr ⟨q518, List.forall_mem_cons.mpr ⟨q526, List.forall_mem_cons.mpr ⟨q527, List.forall_mem_cons.mpr ⟨q96, fun _ h => absurd h List.not_mem_nil⟩⟩⟩⟩⟩) (lw_meth q528)) q517 (by decide +kernel) hk (by decide) (by decide) rfl hn hst hroom hd (by decide) hl (h8 hk) kk kx
  · exact V_xcallA_V (C := "NobodyBeenAft$Pots") (owner := "NobodyBeenAft$Lines") (c := 9) hC hdg 1 (lw_app (List.forall_mem_cons.mpr ⟨q516, List.forall_mem_cons.mpr ⟨q518, List.forall_mem_cons.mpr ⟨q519, List.forall_mem_cons.mpr ⟨q520, List.forall_mem_cons.mpr ⟨q101, fun _ h => absurd h List.not_mem_nil⟩⟩⟩⟩⟩) (lw_meth q521)) q517 (by decide +kernel) hk (by decide) (by decide) rfl hn hst hroom hd (by decide) hl (h9 hk) kk kx
theorem k_X7_35 {α : Type} {P : vX → Prop} {emb : α → vRes} {cc : ByteArray} {nL : Nat} {ret : Option FieldType} {d : Nat} {σ : vMem} {pc : Nat} {ls : List (Option Value)} {st rest : List Value} {t0 : Option (Int32 × vMem)} {f : Int32 → vMem → Option α} {l : Launch} {d' a : Nat} {As : List Value} (hC : vPx P cc nL "NobodyBeenAft$Lines" ret d) (hdg : decode cc pc = .ok (.invokevirtual 35, 3)) (hm : knd σ a ∈ ([5, 10, 11] : List Nat)) (hn : As.length = 1) (hst : st = As.reverse ++ .ref a :: rest) (hroom : (rest.map fun v => v.category).sum ≤ 8) (hd : d' + 1 ≤ d) (hmL : (0 : Nat) ≤ 0) (hl : ∀ X, P X → X.l = l) (hM : ∀ r, t0 = some r → vOk l yX5_passes cX5_passes 2 (some .boolean) d' (.ref a :: As) σ (.inl (eI.1 r, eI.2 r))) (kk : ∀ x σ1, V P emb σ1 (pc + 3) ls (.int x :: rest) (f x σ1)) : V P emb σ pc ls st (bd t0 f) := by
  simp only [List.mem_cons, List.not_mem_nil, or_false] at hm
  rcases hm with hk | hk | hk
  · exact V_callV_I (c := 5) hC hdg 1 (lw_V q533 q455 q456 q89 q460) (by decide +kernel) hk (by decide) (by decide) rfl hn hst hroom hd (by decide) hl hM kk
  · exact V_callU_I (C := "NobodyBeenAft$Rule") (owner := "NobodyBeenAft$Words") (c := 10) hC hdg 1 (lw_app (List.forall_mem_cons.mpr ⟨q533, List.forall_mem_cons.mpr ⟨q457, List.forall_mem_cons.mpr ⟨q459, List.forall_mem_cons.mpr ⟨q455, List.forall_mem_cons.mpr ⟨q89, fun _ h => absurd h List.not_mem_nil⟩⟩⟩⟩⟩) (lw_meth q460)) rfl (by decide +kernel) hk (by decide) (by decide) rfl hn hst hroom hd (by decide) hl hM kk
  · exact V_callU_I (C := "NobodyBeenAft$Log") (owner := "NobodyBeenAft$Words") (c := 11) hC hdg 1 (lw_app (List.forall_mem_cons.mpr ⟨q533, List.forall_mem_cons.mpr ⟨q457, List.forall_mem_cons.mpr ⟨q458, List.forall_mem_cons.mpr ⟨q455, List.forall_mem_cons.mpr ⟨q89, fun _ h => absurd h List.not_mem_nil⟩⟩⟩⟩⟩) (lw_meth q460)) rfl (by decide +kernel) hk (by decide) (by decide) rfl hn hst hroom hd (by decide) hl hM kk
def f_X7_readAll_9 (a0 : Nat) (a1 : Nat) (x2 : Int32) (k : vMem → Option ((Int32 × vMem) ⊕ (Nat × vMem))) : Nat → vMem → Option ((Int32 × vMem) ⊕ (Nat × vMem))
  | 0, _ => none
  | n + 1, σ_4 => cko σ_4 a0 [8, 9] (vl (fun (y : Int32) => cko σ_4 a1 [5, 10, 11] (bxv (f_X5_need σ_4 a1 y) (fun σ_5 => cko σ_5 a0 [8, 9] (bxv (if knd σ_5 a0 = 8 then f_X8_read σ_5 a0 a1 else cko σ_5 a0 [9] (f_X9_read σ_5 a0 a1)) (fun σ_7 => cko σ_7 a0 [8, 9] (cko σ_7 a0 [8, 9] (vl (si σ_7 a0 2 ((gi σ_7 a0 2) + 1)) (fun σ_9 => cko σ_9 a1 [5, 10, 11] (bd (f_X5_passes σ_9 a1 59) (fun r σ_10 => if ¬ r = 0 then (f_X7_readAll_9 a0 a1 x2 k n σ_10) else k σ_10)))))) (fun b_2 σ_8 => cko σ_8 b_2 [6, 17, 18] (some (.inr (b_2, σ_8)))))) (fun b_1 σ_6 => cko σ_6 b_1 [6, 17, 18] (some (.inr (b_1, σ_6)))))) (fun k_1 => if x2 ≤ (gi σ_4 a0 2) then (k_1 0) else k_1 1))
def f_X7_readAll (σ : vMem) (a0 : Nat) (a1 : Nat) (x2 : Int32) : Option ((Int32 × vMem) ⊕ (Nat × vMem)) := cko σ a1 [5, 10, 11] (vl (fun (σ_1 : vMem) => cko σ_1 a1 [5, 10, 11] (bxv (f_X5_needEnd σ_1 a1) (fun σ_2 => cko σ_2 a0 [8, 9] (some (.inl ((gi σ_2 a0 2), σ_2)))) (fun b σ_3 => cko σ_3 b [6, 17, 18] (some (.inr (b, σ_3)))))) (fun k => if ¬ (gi σ a1 1) = 0 then (f_X7_readAll_9 a0 a1 x2 k FU σ) else some (.inl (0, σ))))
abbrev P_X7_readAll (l : Launch) (d n0 s0 : Nat) : vX → Prop := vMX l yX7_readAll cX7_readAll 3 (some .int) [] d n0 s0
theorem w_X7_readAll_9 {l : Launch} {d n0 s0 : Nat} (hd : 9 ≤ d) (h0 : l.stackTraces = false) (a0 : Nat) (a1 : Nat) (x2 : Int32) (k : vMem → Option ((Int32 × vMem) ⊕ (Nat × vMem))) (hk : ∀ (σ_1 : vMem), V (P_X7_readAll l d n0 s0) xI σ_1 50 [some (.ref a0), some (.ref a1), none] [] (k σ_1)) : ∀ (n : Nat) (σ_4 : vMem), V (P_X7_readAll l d n0 s0) xI σ_4 9 [some (.ref a0), some (.ref a1), some (.int x2)] [] (f_X7_readAll_9 a0 a1 x2 k n σ_4) := by
  have hC : vPx (P_X7_readAll l d n0 s0) cX7_readAll 3 "NobodyBeenAft$Lines" (some .int) d := vMX_cx
  intro n
  induction n with
  | zero =>
    intro σ_4
    exact V_none
  | succ n ih =>
    intro σ_4
    refine V_eq (f_X7_readAll_9.eq_2 ..) ?_
    refine V_aload_n hC dX7_readAll_9 rfl ?_
    refine V_aload_n hC dX7_readAll_10 rfl ?_
    refine g_X7_24 hC dX7_readAll_11 ?_
    refine V_iload_n hC dX7_readAll_14 rfl ?_
    refine V_let (B := fun k_1 => ∀ (y : Int32), V (P_X7_readAll l d n0 s0) xI σ_4 23 [some (.ref a0), some (.ref a1), some (.int x2)] [.int y, .ref a1] (k_1 y)) ?_ ?_
    · intro y
      refine V_cko (fun hm => k_X7_27 (As := [.int y]) (rest := []) (d' := 4) hC dX7_readAll_23 hm rfl rfl (Nat.le_of_ble_eq_true rfl) (Nat.le_trans (by decide) hd) (by decide) vMX_l (fun _ h => c_X5_need (Nat.le_refl _) h0 h) (fun σ_5 => ?_) (fun b_1 σ_6 => ?_))
      · refine V_aload_n hC dX7_readAll_26 rfl ?_
        refine V_aload_n hC dX7_readAll_27 rfl ?_
        refine V_cko (fun hm => k_X7_31 (As := [.ref a1]) (rest := []) (d' := 8) hC dX7_readAll_28 hm rfl rfl (Nat.le_of_ble_eq_true rfl) (Nat.le_trans (by decide) hd) vMX_l (fun hk9 _ h => c_X8_read (by decide) h0 (by simpa [hk9, cko] using h)) (fun hk9 _ h => c_X9_read (by decide) h0 (by simpa [hk9, cko] using h)) (fun σ_7 => ?_) (fun b_2 σ_8 => ?_))
        · refine V_aload_n hC dX7_readAll_31 rfl ?_
          refine V_dup hC dX7_readAll_32 rfl ?_
          refine g_X7_24 hC dX7_readAll_33 ?_
          refine V_iconst (v := 1) hC dX7_readAll_36 rfl ?_
          refine V_iadd hC dX7_readAll_37 ?_
          refine p_X7_24 hC dX7_readAll_38 (fun σ_9 => ?_)
          refine V_aload_n hC dX7_readAll_41 rfl ?_
          refine V_bipush (v := 59) hC dX7_readAll_42 rfl ?_
          refine V_cko (fun hm => k_X7_35 (As := [.int 59]) (rest := []) (d' := 1) hC dX7_readAll_44 hm rfl rfl (Nat.le_of_ble_eq_true rfl) (Nat.le_trans (by decide) hd) (by decide) vMX_l (fun _ h => c_X5_passes (Nat.le_refl _) h) (fun r σ_10 => ?_))
          refine V_if_ne (tgt := 9) hC dX7_readAll_47 (by decide) ?_ ?_
          · exact ih σ_10
          · refine V_clr [2] (ls' := [some (.ref a0), some (.ref a1), none]) rfl ?_
            exact hk σ_10
        · exact VT_outS (by decide) rfl
      · exact VT_outS (by decide) rfl
    · intro k_1 hk_1
      refine V_icmp_ge (tgt := 22) hC dX7_readAll_15 (by decide) ?_ ?_
      · refine V_iconst (v := 0) hC dX7_readAll_22 rfl ?_
        exact hk_1 0
      · refine V_iconst (v := 1) hC dX7_readAll_18 rfl ?_
        refine V_goto (tgt := 23) hC dX7_readAll_19 (by decide) ?_
        exact hk_1 1
theorem w_X7_readAll {l : Launch} {d n0 s0 : Nat} (hd : 9 ≤ d) (h0 : l.stackTraces = false) (σ : vMem) (a0 : Nat) (a1 : Nat) (x2 : Int32) : V (P_X7_readAll l d n0 s0) xI σ 0 [some (.ref a0), some (.ref a1), some (.int x2)] [] (f_X7_readAll σ a0 a1 x2) := by
  have hC : vPx (P_X7_readAll l d n0 s0) cX7_readAll 3 "NobodyBeenAft$Lines" (some .int) d := vMX_cx
  refine V_eq (f_X7_readAll.eq_1 ..) ?_
  refine V_aload_n hC dX7_readAll_0 rfl ?_
  refine g_X7_18 hC dX7_readAll_1 ?_
  refine V_let (B := fun k => ∀ (σ_1 : vMem), V (P_X7_readAll l d n0 s0) xI σ_1 50 [some (.ref a0), some (.ref a1), none] [] (k σ_1)) ?_ ?_
  · intro σ_1
    refine V_aload_n hC dX7_readAll_50 rfl ?_
    refine V_cko (fun hm => k_X7_39 (As := []) (rest := []) (d' := 5) hC dX7_readAll_51 hm rfl rfl (Nat.le_of_ble_eq_true rfl) (Nat.le_trans (by decide) hd) (by decide) vMX_l (fun _ h => c_X5_needEnd (Nat.le_refl _) h0 h) (fun σ_2 => ?_) (fun b σ_3 => ?_))
    · refine V_aload_n hC dX7_readAll_54 rfl ?_
      refine g_X7_24 hC dX7_readAll_55 ?_
      exact V_xireturn dX7_readAll_58 rfl
    · exact VT_outS (by decide) rfl
  · intro k hk
    refine V_if_ne (tgt := 9) hC dX7_readAll_4 (by decide) ?_ ?_
    · exact (w_X7_readAll_9 hd h0 a0 a1 x2 k hk) FU σ
    · refine V_iconst (v := 0) hC dX7_readAll_7 rfl ?_
      exact V_xireturn dX7_readAll_8 rfl
theorem c_X7_readAll {l : Launch} {d : Nat} (hd : 9 ≤ d) (h0 : l.stackTraces = false) {σ : vMem} {a0 : Nat} {a1 : Nat} {x2 : Int32} {r : (Int32 × vMem) ⊕ (Nat × vMem)} (h : f_X7_readAll σ a0 a1 x2 = some r) : vOx l yX7_readAll (ws_ yX7_readAll cX7_readAll 3 (some .int)) d [.ref a0, .ref a1, .int x2] σ (xI r) := V_xmethod (em := xI) [some (.ref a0), some (.ref a1), some (.int x2)] (by decide +kernel) rfl (Nat.le_of_ble_eq_true rfl) (w_X7_readAll hd h0 σ a0 a1 x2) h
/-! NobodyBeenAft.rocks()I -/
def f_X1_rocks (σ : vMem) (a0 : Nat) : Option (Int32 × vMem) := nw σ 8 3 (fun b σ_1 => bv (f_X8_init σ_1 b) (fun σ_2 => cko σ_2 a0 [1] (bd (f_X1_words σ_2 a0 76) (fun b_1 σ_3 => cko σ_3 a0 [1] (cko σ_3 b [8] (bx (f_X7_readAll σ_3 b b_1 (16 - (gi σ_3 a0 11))) (fun r σ_4 => cko σ_4 b [8, 9] (dr (gr σ_4 b 0) (fun b_3 => cko σ_4 a0 [1] (dr (gr σ_4 a0 5) (fun b_4 => cko σ_4 a0 [1] (cko σ_4 b [8, 9] (cpyI σ_4 b_3 0 b_4 (gi σ_4 a0 11) (gi σ_4 b 2) (fun σ_6 => cko σ_6 b [8, 9] (dr (gr σ_6 b 1) (fun b_5 => cko σ_6 a0 [1] (dr (gr σ_6 a0 6) (fun b_6 => cko σ_6 a0 [1] (cko σ_6 b [8, 9] (cpyI σ_6 b_5 0 b_6 (gi σ_6 a0 11) (gi σ_6 b 2) (fun σ_7 => cko σ_7 a0 [1] (cko σ_7 b [8, 9] (cko σ_7 a0 [1] (vl (si σ_7 a0 11 ((gi σ_7 a0 11) + (gi σ_7 b 2))) (fun σ_8 => cko σ_8 b [8, 9] (some ((gi σ_8 b 2), σ_8))))))))))))))))))))) (fun b_2 σ_5 => cko σ_5 b_2 [6] (cko σ_5 b_2 [6] (some (((-1) - (gi σ_5 b_2 0)), σ_5))))))))))
abbrev P_X1_rocks (l : Launch) (d n0 s0 : Nat) : vX → Prop := vMX l yX1_rocks cX1_rocks 3 (some .int) [(8, 26, 29, 113)] d n0 s0
theorem w_X1_rocks {l : Launch} {d n0 s0 : Nat} (hd : 10 ≤ d) (h0 : l.stackTraces = false) (σ : vMem) (a0 : Nat) : V (P_X1_rocks l d n0 s0) nxI σ 0 [some (.ref a0), none, none] [] (f_X1_rocks σ a0) := by
  have hC : vPx (P_X1_rocks l d n0 s0) cX1_rocks 3 "NobodyBeenAft" (some .int) d := vMX_cx
  refine V_eq (f_X1_rocks.eq_1 ..) ?_
  refine V_new (c := 8) hC dX1_rocks_0 q475 q476 q96 rfl (by decide) in_X8 tyX8 tyX8_ok (by decide +kernel) (fun b σ_1 => ?_)
  refine V_dup hC dX1_rocks_3 rfl ?_
  refine V_callIN_V (As := []) (rest := [.ref b]) (d' := 1) hC dX1_rocks_4 0 q479 q96 q477 q478 rfl rfl (by decide +kernel) rfl rfl (Nat.le_of_ble_eq_true rfl) (Nat.le_trans (by decide) hd) (by decide) vMX_l (fun _ h => c_X8_init (Nat.le_refl _) h) (fun σ_2 => ?_)
  refine V_astore_n (ls' := [some (.ref a0), some (.ref b), none]) hC dX1_rocks_7 (by decide) rfl rfl ?_
  refine V_aload_n hC dX1_rocks_8 rfl ?_
  refine V_aload_n hC dX1_rocks_9 rfl ?_
  refine V_bipush (v := 76) hC dX1_rocks_10 rfl ?_
  refine V_cko (fun hm => V_callV_A (c := 1) (As := [.int 76]) (rest := [.ref b]) (d' := 1) hC dX1_rocks_12 1 (lw_V q316 q318 qs0 q85 q319) (by decide +kernel) (List.mem_singleton.mp hm) (by decide) (by decide) rfl rfl rfl (Nat.le_of_ble_eq_true rfl) (Nat.le_trans (by decide) hd) (by decide) vMX_l (fun _ h => c_X1_words (Nat.le_refl _) h) (fun b_1 σ_3 => ?_))
  refine V_bipush (v := 16) hC dX1_rocks_15 rfl ?_
  refine V_aload_n hC dX1_rocks_17 rfl ?_
  refine g_X1_139 hC dX1_rocks_18 ?_
  refine V_isub hC dX1_rocks_21 ?_
  refine V_cko (fun hm => V_xcallU_I (C := "NobodyBeenAft$Stones") (owner := "NobodyBeenAft$Lines") (c := 8) (As := [.ref b_1, .int (16 - (gi σ_3 a0 11))]) (rest := []) (d' := 9) hC dX1_rocks_22 2 (lw_app (List.forall_mem_cons.mpr ⟨q509, List.forall_mem_cons.mpr ⟨q511, List.forall_mem_cons.mpr ⟨q513, List.forall_mem_cons.mpr ⟨q510, List.forall_mem_cons.mpr ⟨q95, fun _ h => absurd h List.not_mem_nil⟩⟩⟩⟩⟩) (lw_meth q514)) rfl (by decide +kernel) (List.mem_singleton.mp hm) (by decide) (by decide) rfl rfl rfl (Nat.le_of_ble_eq_true rfl) (Nat.le_trans (by decide) hd) (by decide) vMX_l (fun _ h => c_X7_readAll (Nat.le_refl _) h0 h) (fun r σ_4 => ?_) (fun b_2 σ_5 => ?_))
  · refine V_pop hC dX1_rocks_25 rfl ?_
    refine V_goto (tgt := 37) hC dX1_rocks_26 (by decide) ?_
    refine V_aload_n hC dX1_rocks_37 rfl ?_
    refine g_X1_148 hC dX1_rocks_38 (fun b_3 => ?_)
    refine V_iconst (v := 0) hC dX1_rocks_41 rfl ?_
    refine V_aload_n hC dX1_rocks_42 rfl ?_
    refine g_X1_39 hC dX1_rocks_43 (fun b_4 => ?_)
    refine V_aload_n hC dX1_rocks_46 rfl ?_
    refine g_X1_139 hC dX1_rocks_47 ?_
    refine V_aload_n hC dX1_rocks_50 rfl ?_
    refine g_X1_151 hC dX1_rocks_51 ?_
    refine V_cpyI hC dX1_rocks_54 q468 q470 q469 q94 (Nat.le_of_ble_eq_true rfl) (fun σ_6 => ?_)
    refine V_aload_n hC dX1_rocks_57 rfl ?_
    refine g_X1_152 hC dX1_rocks_58 (fun b_5 => ?_)
    refine V_iconst (v := 0) hC dX1_rocks_61 rfl ?_
    refine V_aload_n hC dX1_rocks_62 rfl ?_
    refine g_X1_42 hC dX1_rocks_63 (fun b_6 => ?_)
    refine V_aload_n hC dX1_rocks_66 rfl ?_
    refine g_X1_139 hC dX1_rocks_67 ?_
    refine V_aload_n hC dX1_rocks_70 rfl ?_
    refine g_X1_151 hC dX1_rocks_71 ?_
    refine V_cpyI hC dX1_rocks_74 q468 q470 q469 q94 (Nat.le_of_ble_eq_true rfl) (fun σ_7 => ?_)
    refine V_aload_n hC dX1_rocks_77 rfl ?_
    refine V_dup hC dX1_rocks_78 rfl ?_
    refine g_X1_139 hC dX1_rocks_79 ?_
    refine V_aload_n hC dX1_rocks_82 rfl ?_
    refine g_X1_151 hC dX1_rocks_83 ?_
    refine V_iadd hC dX1_rocks_86 ?_
    refine p_X1_139 hC dX1_rocks_87 (fun σ_8 => ?_)
    refine V_aload_n hC dX1_rocks_90 rfl ?_
    refine g_X1_151 hC dX1_rocks_91 ?_
    exact V_xireturn dX1_rocks_94 rfl
  · refine VT_catch hC (by decide) (by decide) (by decide) (by decide) rfl q292 q391 ?_
    refine V_astore_n (ls' := [some (.ref a0), some (.ref b), some (.ref b_2)]) hC dX1_rocks_29 (by decide) rfl rfl ?_
    refine V_iconst (v := (-1)) hC dX1_rocks_30 rfl ?_
    refine V_aload_n hC dX1_rocks_31 rfl ?_
    refine g_X1_115 hC dX1_rocks_32 ?_
    refine V_isub hC dX1_rocks_35 ?_
    exact V_xireturn dX1_rocks_36 rfl
theorem c_X1_rocks {l : Launch} {d : Nat} (hd : 10 ≤ d) (h0 : l.stackTraces = false) {σ : vMem} {a0 : Nat} {r : Int32 × vMem} (h : f_X1_rocks σ a0 = some r) : vOx l yX1_rocks (wsW_ yX1_rocks cX1_rocks 3 (some .int) [(8, 26, 29, 113)]) d [.ref a0] σ (nxI r) := V_wmethod (em := nxI) (hh := [(8, 26, 29, 113)]) [some (.ref a0), none, none] (by decide +kernel) rfl (Nat.le_of_ble_eq_true rfl) (w_X1_rocks hd h0 σ a0) h
