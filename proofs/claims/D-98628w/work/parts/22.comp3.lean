/-! MACHINE HALF, printed by gen/build.py: terms (f_), walks (w_), contracts (c_) -/
set_option maxRecDepth 100000
/-! NobodyBeenAft.survives(II)I -/
def f_X1_survives_28 (x1 : Int32) (x2 : Int32) : Nat → vMem → Int32 → Option (Int32 × vMem)
  | 0, _, _ => none
  | n + 1, σ_1, v3 => if 15 < v3 then (some ((-2), σ_1)) else bd (f_X1_right σ_1 v3 x1) (fun r_2 σ_2 => bp (f_X1_power σ_2 10 v3) (fun r_3 => if (lg_cmp (r_2 * 100) ((Int32.toInt64 x2) * r_3)) < 0 then (vl (v3 + 2) (fun v3_1 => f_X1_survives_28 x1 x2 n σ_2 v3_1)) else some (v3, σ_2)))
def f_X1_survives (σ : vMem) (a0 : Nat) (x1 : Int32) (x2 : Int32) : Option (Int32 × vMem) := bp (f_X1_in σ (Int32.toInt64 x1) 0 10) (fun r => if r = 0 then (some ((-1), σ)) else bp (f_X1_in σ (Int32.toInt64 x2) 0 100) (fun r_1 => if ¬ r_1 = 0 then (f_X1_survives_28 x1 x2 FU σ 1) else some ((-1), σ)))
abbrev P_X1_survives (l : Launch) (d n0 s0 : Nat) : vX → Prop := vMP l yX1_survives cX1_survives 4 (some .int) d n0 s0
theorem w_X1_survives_28 {l : Launch} {d n0 s0 : Nat} (hd : 1 ≤ d) (x1 : Int32) (x2 : Int32)  : ∀ (n : Nat) (σ_1 : vMem) (v3 : Int32), V (P_X1_survives l d n0 s0) (vEmb eI) σ_1 28 [none, some (.int x1), some (.int x2), some (.int v3)] [] (f_X1_survives_28 x1 x2 n σ_1 v3) := by
  have hC : vPx (P_X1_survives l d n0 s0) cX1_survives 4 "NobodyBeenAft" (some .int) d := vMP_cx
  intro n
  induction n with
  | zero =>
    intro σ_1 v3
    exact V_none
  | succ n ih =>
    intro σ_1 v3
    refine V_eq (f_X1_survives_28.eq_2 ..) ?_
    refine V_iload_n hC dX1_survives_28 rfl ?_
    refine V_bipush (v := 15) hC dX1_survives_29 rfl ?_
    refine V_icmp_gt (tgt := 65) hC dX1_survives_31 (by decide) ?_ ?_
    · refine V_bipush (v := (-2)) hC dX1_survives_65 rfl ?_
      exact V_ireturn dX1_survives_67 rfl rfl
    · refine V_iload_n hC dX1_survives_34 rfl ?_
      refine V_iload_n hC dX1_survives_35 rfl ?_
      refine V_callS_L (As := [.int v3, .int x1]) (rest := []) (d' := 0) hC dX1_survives_36 2 (lw_S q1049 q1050 q85 q1051) (by decide +kernel) rfl rfl (Nat.le_of_ble_eq_true rfl) (Nat.le_trans (by decide) hd) (by decide) vMP_l (fun _ h => c_X1_right (Nat.le_refl _) h) (fun r_2 σ_2 => ?_)
      refine V_ldc2 hC dX1_survives_39 q1066 ?_
      refine V_lmul hC dX1_survives_42 ?_
      refine V_iload_n hC dX1_survives_43 rfl ?_
      refine V_i2l hC dX1_survives_44 ?_
      refine V_ldc2 hC dX1_survives_45 q1035 ?_
      refine V_iload_n hC dX1_survives_48 rfl ?_
      refine V_callS_PL (As := [.long 10, .int v3]) (rest := [.long (Int32.toInt64 x2), .long (r_2 * 100)]) (d' := 0) hC dX1_survives_49 2 (lw_S q1052 q1053 q85 q1054) (by decide +kernel) rfl rfl (Nat.le_of_ble_eq_true rfl) (Nat.le_trans (by decide) hd) (by decide) vMP_l (fun _ h => c_X1_power (Nat.le_refl _) h) (fun r_3 => ?_)
      refine V_lmul hC dX1_survives_52 ?_
      refine V_lcmp hC dX1_survives_53 ?_
      refine V_if_lt (tgt := 59) hC dX1_survives_54 (by decide) ?_ ?_
      · refine V_iincL (v := v3 + 2) (ls' := fun v3_1 => [none, some (.int x1), some (.int x2), some (.int v3_1)]) hC dX1_survives_59 rfl (by decide) rfl rfl (fun _ => rfl) (fun v3_1 => ?_)
        refine V_goto (tgt := 28) hC dX1_survives_62 (by decide) ?_
        exact ih σ_2 v3_1
      · refine V_iload_n hC dX1_survives_57 rfl ?_
        exact V_ireturn dX1_survives_58 rfl rfl
theorem w_X1_survives {l : Launch} {d n0 s0 : Nat} (hd : 1 ≤ d) (σ : vMem) (a0 : Nat) (x1 : Int32) (x2 : Int32) : V (P_X1_survives l d n0 s0) (vEmb eI) σ 0 [some (.ref a0), some (.int x1), some (.int x2), none] [] (f_X1_survives σ a0 x1 x2) := by
  have hC : vPx (P_X1_survives l d n0 s0) cX1_survives 4 "NobodyBeenAft" (some .int) d := vMP_cx
  refine V_eq (f_X1_survives.eq_1 ..) ?_
  refine V_iload_n hC dX1_survives_0 rfl ?_
  refine V_i2l hC dX1_survives_1 ?_
  refine V_lconst (v := 0) hC dX1_survives_2 rfl ?_
  refine V_ldc2 hC dX1_survives_3 q1035 ?_
  refine V_callS_PI (As := [.long (Int32.toInt64 x1), .long 0, .long 10]) (rest := []) (d' := 0) hC dX1_survives_6 3 (lw_S q285 q286 q85 q287) (by decide +kernel) rfl rfl (Nat.le_of_ble_eq_true rfl) (Nat.le_trans (by decide) hd) (by decide) vMP_l (fun _ h => c_X1_in (Nat.le_refl _) h) (fun r => ?_)
  refine V_if_eq (tgt := 24) hC dX1_survives_9 (by decide) ?_ ?_
  · refine V_iconst (v := (-1)) hC dX1_survives_24 rfl ?_
    exact V_ireturn dX1_survives_25 rfl rfl
  · refine V_iload_n hC dX1_survives_12 rfl ?_
    refine V_i2l hC dX1_survives_13 ?_
    refine V_lconst (v := 0) hC dX1_survives_14 rfl ?_
    refine V_ldc2 hC dX1_survives_15 q1066 ?_
    refine V_callS_PI (As := [.long (Int32.toInt64 x2), .long 0, .long 100]) (rest := []) (d' := 0) hC dX1_survives_18 3 (lw_S q285 q286 q85 q287) (by decide +kernel) rfl rfl (Nat.le_of_ble_eq_true rfl) (Nat.le_trans (by decide) hd) (by decide) vMP_l (fun _ h => c_X1_in (Nat.le_refl _) h) (fun r_1 => ?_)
    refine V_if_ne (tgt := 26) hC dX1_survives_21 (by decide) ?_ ?_
    · refine V_iconst (v := 1) hC dX1_survives_26 rfl ?_
      refine V_istore_n (ls' := [some (.ref a0), some (.int x1), some (.int x2), some (.int 1)]) hC dX1_survives_27 (by decide) rfl rfl ?_
      refine V_clr [0] (ls' := [none, some (.int x1), some (.int x2), some (.int 1)]) rfl ?_
      exact (w_X1_survives_28 hd x1 x2) FU σ 1
    · refine V_iconst (v := (-1)) hC dX1_survives_24 rfl ?_
      exact V_ireturn dX1_survives_25 rfl rfl
theorem c_X1_survives {l : Launch} {d : Nat} (hd : 1 ≤ d) {σ : vMem} {a0 : Nat} {x1 : Int32} {x2 : Int32} {r : Int32 × vMem} (h : f_X1_survives σ a0 x1 x2 = some r) : vOk l yX1_survives cX1_survives 4 (some .int) d [.ref a0, .int x1, .int x2] σ (.inl ((eI).1 r, (eI).2 r)) := V_method (em := eI) [some (.ref a0), some (.int x1), some (.int x2), none] (by decide +kernel) rfl (Nat.le_of_ble_eq_true rfl) (w_X1_survives hd σ a0 x1 x2) h
/-! NobodyBeenAft.eatsIn(II)I -/
def f_X1_eatsIn_5 (σ : vMem) (a0 : Nat) (x2 : Int32) : Nat → Int32 → Int32 → Option (Int32)
  | 0, _, _ => none
  | n + 1, v3, v4 => if x2 < v4 then (some v3) else cko σ a0 [1] (dr (gr σ a0 7) (fun b => cka σ b 105 v4 (vl (v3 + (gi σ b (Int32.toNatClampNeg v4))) (fun v3_1 => vl (v4 + 1) (fun v4_1 => f_X1_eatsIn_5 σ a0 x2 n v3_1 v4_1)))))
def f_X1_eatsIn (σ : vMem) (a0 : Nat) (x1 : Int32) (x2 : Int32) : Option (Int32) := f_X1_eatsIn_5 σ a0 x2 FU 0 x1
abbrev P_X1_eatsIn (l : Launch) (d n0 s0 : Nat) : vX → Prop := vMP l yX1_eatsIn cX1_eatsIn 5 (some .int) d n0 s0
theorem w_X1_eatsIn_5 {l : Launch} {d n0 s0 : Nat} (hd : 0 ≤ d) (σ : vMem) (a0 : Nat) (x2 : Int32)  : ∀ (n : Nat) (v3 : Int32) (v4 : Int32), V (P_X1_eatsIn l d n0 s0) (vEmb (ePI σ)) σ 5 [some (.ref a0), none, some (.int x2), some (.int v3), some (.int v4)] [] (f_X1_eatsIn_5 σ a0 x2 n v3 v4) := by
  have hC : vPx (P_X1_eatsIn l d n0 s0) cX1_eatsIn 5 "NobodyBeenAft" (some .int) d := vMP_cx
  intro n
  induction n with
  | zero =>
    intro v3 v4
    exact V_none
  | succ n ih =>
    intro v3 v4
    refine V_eq (f_X1_eatsIn_5.eq_2 ..) ?_
    refine V_iload hC dX1_eatsIn_5 rfl ?_
    refine V_iload_n hC dX1_eatsIn_7 rfl ?_
    refine V_icmp_gt (tgt := 27) hC dX1_eatsIn_8 (by decide) ?_ ?_
    · refine V_iload_n hC dX1_eatsIn_27 rfl ?_
      exact V_ireturn dX1_eatsIn_28 rfl rfl
    · refine V_iload_n hC dX1_eatsIn_11 rfl ?_
      refine V_aload_n hC dX1_eatsIn_12 rfl ?_
      refine g_X1_45 hC dX1_eatsIn_13 (fun b => ?_)
      refine V_iload hC dX1_eatsIn_16 rfl ?_
      refine V_iald hC dX1_eatsIn_18 ?_
      refine V_iadd hC dX1_eatsIn_19 ?_
      refine V_istore_nL (ls' := fun v3_1 => [some (.ref a0), none, some (.int x2), some (.int v3_1), some (.int v4)]) hC dX1_eatsIn_20 (by decide) rfl (fun _ => rfl) (fun v3_1 => ?_)
      refine V_iincL (v := v4 + 1) (ls' := fun v4_1 => [some (.ref a0), none, some (.int x2), some (.int v3_1), some (.int v4_1)]) hC dX1_eatsIn_21 rfl (by decide) rfl rfl (fun _ => rfl) (fun v4_1 => ?_)
      refine V_goto (tgt := 5) hC dX1_eatsIn_24 (by decide) ?_
      exact ih v3_1 v4_1
theorem w_X1_eatsIn {l : Launch} {d n0 s0 : Nat} (hd : 0 ≤ d) (σ : vMem) (a0 : Nat) (x1 : Int32) (x2 : Int32) : V (P_X1_eatsIn l d n0 s0) (vEmb (ePI σ)) σ 0 [some (.ref a0), some (.int x1), some (.int x2), none, none] [] (f_X1_eatsIn σ a0 x1 x2) := by
  have hC : vPx (P_X1_eatsIn l d n0 s0) cX1_eatsIn 5 "NobodyBeenAft" (some .int) d := vMP_cx
  refine V_eq (f_X1_eatsIn.eq_1 ..) ?_
  refine V_iconst (v := 0) hC dX1_eatsIn_0 rfl ?_
  refine V_istore_n (ls' := [some (.ref a0), some (.int x1), some (.int x2), some (.int 0), none]) hC dX1_eatsIn_1 (by decide) rfl rfl ?_
  refine V_iload_n hC dX1_eatsIn_2 rfl ?_
  refine V_istore (ls' := [some (.ref a0), some (.int x1), some (.int x2), some (.int 0), some (.int x1)]) hC dX1_eatsIn_3 (by decide) rfl rfl ?_
  refine V_clr [1] (ls' := [some (.ref a0), none, some (.int x2), some (.int 0), some (.int x1)]) rfl ?_
  exact (w_X1_eatsIn_5 hd σ a0 x2) FU 0 x1
theorem c_X1_eatsIn {l : Launch} {d : Nat} (hd : 0 ≤ d) {σ : vMem} {a0 : Nat} {x1 : Int32} {x2 : Int32} {r : Int32} (h : f_X1_eatsIn σ a0 x1 x2 = some r) : vOk l yX1_eatsIn cX1_eatsIn 5 (some .int) d [.ref a0, .int x1, .int x2] σ (.inl (((ePI σ)).1 r, ((ePI σ)).2 r)) := V_method (em := (ePI σ)) [some (.ref a0), some (.int x1), some (.int x2), none, none] (by decide +kernel) rfl (Nat.le_of_ble_eq_true rfl) (w_X1_eatsIn hd σ a0 x1 x2) h
/-! NobodyBeenAft.foodIn(II)I -/
def f_X1_foodIn_5 (σ : vMem) (a0 : Nat) (x2 : Int32) : Nat → Int32 → Int32 → Option (Int32)
  | 0, _, _ => none
  | n + 1, v3, v4 => if x2 < v4 then (some v3) else cko σ a0 [1] (dr (gr σ a0 0) (fun b => cko σ b [2] (dr (gr σ b 0) (fun b_1 => cka σ b_1 105 v4 (vl (v3 + (gi σ b_1 (Int32.toNatClampNeg v4))) (fun v3_1 => vl (v4 + 1) (fun v4_1 => f_X1_foodIn_5 σ a0 x2 n v3_1 v4_1)))))))
def f_X1_foodIn (σ : vMem) (a0 : Nat) (x1 : Int32) (x2 : Int32) : Option (Int32) := f_X1_foodIn_5 σ a0 x2 FU 0 x1
abbrev P_X1_foodIn (l : Launch) (d n0 s0 : Nat) : vX → Prop := vMP l yX1_foodIn cX1_foodIn 5 (some .int) d n0 s0
theorem w_X1_foodIn_5 {l : Launch} {d n0 s0 : Nat} (hd : 0 ≤ d) (σ : vMem) (a0 : Nat) (x2 : Int32)  : ∀ (n : Nat) (v3 : Int32) (v4 : Int32), V (P_X1_foodIn l d n0 s0) (vEmb (ePI σ)) σ 5 [some (.ref a0), none, some (.int x2), some (.int v3), some (.int v4)] [] (f_X1_foodIn_5 σ a0 x2 n v3 v4) := by
  have hC : vPx (P_X1_foodIn l d n0 s0) cX1_foodIn 5 "NobodyBeenAft" (some .int) d := vMP_cx
  intro n
  induction n with
  | zero =>
    intro v3 v4
    exact V_none
  | succ n ih =>
    intro v3 v4
    refine V_eq (f_X1_foodIn_5.eq_2 ..) ?_
    refine V_iload hC dX1_foodIn_5 rfl ?_
    refine V_iload_n hC dX1_foodIn_7 rfl ?_
    refine V_icmp_gt (tgt := 30) hC dX1_foodIn_8 (by decide) ?_ ?_
    · refine V_iload_n hC dX1_foodIn_30 rfl ?_
      exact V_ireturn dX1_foodIn_31 rfl rfl
    · refine V_iload_n hC dX1_foodIn_11 rfl ?_
      refine V_aload_n hC dX1_foodIn_12 rfl ?_
      refine g_X1_21 hC dX1_foodIn_13 (fun b => ?_)
      refine g_X1_158 hC dX1_foodIn_16 (fun b_1 => ?_)
      refine V_iload hC dX1_foodIn_19 rfl ?_
      refine V_iald hC dX1_foodIn_21 ?_
      refine V_iadd hC dX1_foodIn_22 ?_
      refine V_istore_nL (ls' := fun v3_1 => [some (.ref a0), none, some (.int x2), some (.int v3_1), some (.int v4)]) hC dX1_foodIn_23 (by decide) rfl (fun _ => rfl) (fun v3_1 => ?_)
      refine V_iincL (v := v4 + 1) (ls' := fun v4_1 => [some (.ref a0), none, some (.int x2), some (.int v3_1), some (.int v4_1)]) hC dX1_foodIn_24 rfl (by decide) rfl rfl (fun _ => rfl) (fun v4_1 => ?_)
      refine V_goto (tgt := 5) hC dX1_foodIn_27 (by decide) ?_
      exact ih v3_1 v4_1
theorem w_X1_foodIn {l : Launch} {d n0 s0 : Nat} (hd : 0 ≤ d) (σ : vMem) (a0 : Nat) (x1 : Int32) (x2 : Int32) : V (P_X1_foodIn l d n0 s0) (vEmb (ePI σ)) σ 0 [some (.ref a0), some (.int x1), some (.int x2), none, none] [] (f_X1_foodIn σ a0 x1 x2) := by
  have hC : vPx (P_X1_foodIn l d n0 s0) cX1_foodIn 5 "NobodyBeenAft" (some .int) d := vMP_cx
  refine V_eq (f_X1_foodIn.eq_1 ..) ?_
  refine V_iconst (v := 0) hC dX1_foodIn_0 rfl ?_
  refine V_istore_n (ls' := [some (.ref a0), some (.int x1), some (.int x2), some (.int 0), none]) hC dX1_foodIn_1 (by decide) rfl rfl ?_
  refine V_iload_n hC dX1_foodIn_2 rfl ?_
  refine V_istore (ls' := [some (.ref a0), some (.int x1), some (.int x2), some (.int 0), some (.int x1)]) hC dX1_foodIn_3 (by decide) rfl rfl ?_
  refine V_clr [1] (ls' := [some (.ref a0), none, some (.int x2), some (.int 0), some (.int x1)]) rfl ?_
  exact (w_X1_foodIn_5 hd σ a0 x2) FU 0 x1
theorem c_X1_foodIn {l : Launch} {d : Nat} (hd : 0 ≤ d) {σ : vMem} {a0 : Nat} {x1 : Int32} {x2 : Int32} {r : Int32} (h : f_X1_foodIn σ a0 x1 x2 = some r) : vOk l yX1_foodIn cX1_foodIn 5 (some .int) d [.ref a0, .int x1, .int x2] σ (.inl (((ePI σ)).1 r, ((ePI σ)).2 r)) := V_method (em := (ePI σ)) [some (.ref a0), some (.int x1), some (.int x2), none, none] (by decide +kernel) rfl (Nat.le_of_ble_eq_true rfl) (w_X1_foodIn hd σ a0 x1 x2) h
/-! NobodyBeenAft.lives(I)I -/
def f_X1_lives_30 (σ : vMem) (a0 : Nat) (x1 : Int32) (k : Int32 → Int32 → Option (Int32 × vMem)) : Nat → Int32 → Int32 → Int32 → Option (Int32 × vMem)
  | 0, _, _, _ => none
  | n + 1, v2_1, v3_1, v4 => vl (fun (y : Int32) => if y ≤ v4 then (k v2_1 v3_1) else vl (fun (y_1 : Int32) => vl (fun (y_2 : Int32) => cko σ a0 [1] (bp (f_X1_eatsIn σ a0 y_1 y_2) (fun r_1 => vl (fun (v2_2 : Int32) (v3_2 : Int32) => vl (v4 + 1) (fun v4_1 => f_X1_lives_30 σ a0 x1 k n v2_2 v3_2 v4_1)) (fun k_4 => if r_1 = 0 then (k_4 v2_1 v3_1) else cko σ a0 [1] (bp (f_X1_foodIn σ a0 y_1 y_2) (fun r_2 => ck (¬ r_1 = 0) (if (r_2 / r_1) < v2_1 then (cko σ a0 [1] (bp (f_X1_foodIn σ a0 y_1 y_2) (fun r_3 => ck (¬ r_1 = 0) (vl (r_3 / r_1) (fun v2_3 => k_4 v2_3 v4))))) else k_4 v2_1 v3_1))))))) (fun k_3 => if 2 ≤ x1 then (cko σ a0 [1] (k_3 ((gi σ a0 12) - 1))) else k_3 v4)) (fun k_2 => vl (k_2 v4) (fun k_5 => if x1 = 0 then k_5 else if ¬ x1 = 2 then (k_2 0) else k_5))) (fun k_1 => if ¬ x1 = 3 then (cko σ a0 [1] (k_1 (gi σ a0 12))) else k_1 1)
def f_X1_lives (σ : vMem) (a0 : Nat) (x1 : Int32) : Option (Int32 × vMem) := bp (f_X1_in σ (Int32.toInt64 x1) 0 3) (fun r => if r = 0 then (some ((-1), σ)) else cko σ a0 [1] (if ¬ (gi σ a0 12) = 0 then (vl (fun (v2 : Int32) (v3 : Int32) => cko σ a0 [1] (vl (si σ a0 18 0) (fun σ_1 => cko σ_1 a0 [1] (bv (f_X1_tell σ_1 a0 (Int32.toInt64 v3)) (fun σ_2 => some (v2, σ_2)))))) (fun k => f_X1_lives_30 σ a0 x1 k FU 99999 (-1) 0)) else some ((-1), σ)))
abbrev P_X1_lives (l : Launch) (d n0 s0 : Nat) : vX → Prop := vMP l yX1_lives cX1_lives 8 (some .int) d n0 s0
theorem w_X1_lives_30 {l : Launch} {d n0 s0 : Nat} (hd : 1 ≤ d) (σ : vMem) (a0 : Nat) (x1 : Int32) (k : Int32 → Int32 → Option (Int32 × vMem)) (hk : ∀ (v2 : Int32), ∀ (v3 : Int32), V (P_X1_lives l d n0 s0) (vEmb eI) σ 137 [some (.ref a0), none, some (.int v2), some (.int v3), none, none, none, none] [] (k v2 v3)) : ∀ (n : Nat) (v2_1 : Int32) (v3_1 : Int32) (v4 : Int32), V (P_X1_lives l d n0 s0) (vEmb eI) σ 30 [some (.ref a0), some (.int x1), some (.int v2_1), some (.int v3_1), some (.int v4), none, none, none] [] (f_X1_lives_30 σ a0 x1 k n v2_1 v3_1 v4) := by
  have hC : vPx (P_X1_lives l d n0 s0) cX1_lives 8 "NobodyBeenAft" (some .int) d := vMP_cx
  intro n
  induction n with
  | zero =>
    intro v2_1 v3_1 v4
    exact V_none
  | succ n ih =>
    intro v2_1 v3_1 v4
    refine V_eq (f_X1_lives_30.eq_2 ..) ?_
    refine V_iload hC dX1_lives_30 rfl ?_
    refine V_iload_n hC dX1_lives_32 rfl ?_
    refine V_iconst (v := 3) hC dX1_lives_33 rfl ?_
    refine V_let (B := fun k_1 => ∀ (y : Int32), V (P_X1_lives l d n0 s0) (vEmb eI) σ 45 [some (.ref a0), some (.int x1), some (.int v2_1), some (.int v3_1), some (.int v4), none, none, none] [.int y, .int v4] (k_1 y)) ?_ ?_
    · intro y
      refine V_icmp_ge (tgt := 137) hC dX1_lives_45 (by decide) ?_ ?_
      · refine V_clr [1, 4] (ls' := [some (.ref a0), none, some (.int v2_1), some (.int v3_1), none, none, none, none]) rfl ?_
        exact hk v2_1 v3_1
      · refine V_iload_n hC dX1_lives_48 rfl ?_
        refine V_let (B := fun k_2 => ∀ (y_1 : Int32), V (P_X1_lives l d n0 s0) (vEmb eI) σ 63 [some (.ref a0), some (.int x1), some (.int v2_1), some (.int v3_1), some (.int v4), none, none, none] [.int y_1] (k_2 y_1)) ?_ ?_
        · intro y_1
          refine V_istore (ls' := [some (.ref a0), some (.int x1), some (.int v2_1), some (.int v3_1), some (.int v4), some (.int y_1), none, none]) hC dX1_lives_63 (by decide) rfl rfl ?_
          refine V_iload_n hC dX1_lives_65 rfl ?_
          refine V_iconst (v := 2) hC dX1_lives_66 rfl ?_
          refine V_let (B := fun k_3 => ∀ (y_2 : Int32), V (P_X1_lives l d n0 s0) (vEmb eI) σ 81 [some (.ref a0), some (.int x1), some (.int v2_1), some (.int v3_1), some (.int v4), some (.int y_1), none, none] [.int y_2] (k_3 y_2)) ?_ ?_
          · intro y_2
            refine V_istore (ls' := [some (.ref a0), some (.int x1), some (.int v2_1), some (.int v3_1), some (.int v4), some (.int y_1), some (.int y_2), none]) hC dX1_lives_81 (by decide) rfl rfl ?_
            refine V_aload_n hC dX1_lives_83 rfl ?_
            refine V_iload hC dX1_lives_84 rfl ?_
            refine V_iload hC dX1_lives_86 rfl ?_
            refine V_cko (fun hm => V_callV_PI (c := 1) (As := [.int y_1, .int y_2]) (rest := []) (d' := 0) hC dX1_lives_88 2 (lw_V q1072 q1074 qs22 q85 q1075) (by decide +kernel) (List.mem_singleton.mp hm) (by decide) (by decide) rfl rfl rfl (Nat.le_of_ble_eq_true rfl) (Nat.le_trans (by decide) hd) (by decide) vMP_l (fun _ h => c_X1_eatsIn (Nat.le_refl _) h) (fun r_1 => ?_))
            refine V_istore (ls' := [some (.ref a0), some (.int x1), some (.int v2_1), some (.int v3_1), some (.int v4), some (.int y_1), some (.int y_2), some (.int r_1)]) hC dX1_lives_91 (by decide) rfl rfl ?_
            refine V_iload hC dX1_lives_93 rfl ?_
            refine V_let (B := fun k_4 => ∀ (v2_2 : Int32), ∀ (v3_2 : Int32), V (P_X1_lives l d n0 s0) (vEmb eI) σ 131 [some (.ref a0), some (.int x1), some (.int v2_2), some (.int v3_2), some (.int v4), none, none, none] [] (k_4 v2_2 v3_2)) ?_ ?_
            · intro v2_2 v3_2
              refine V_iincL (v := v4 + 1) (ls' := fun v4_1 => [some (.ref a0), some (.int x1), some (.int v2_2), some (.int v3_2), some (.int v4_1), none, none, none]) hC dX1_lives_131 rfl (by decide) rfl rfl (fun _ => rfl) (fun v4_1 => ?_)
              refine V_goto (tgt := 30) hC dX1_lives_134 (by decide) ?_
              exact ih v2_2 v3_2 v4_1
            · intro k_4 hk_4
              refine V_if_eq (tgt := 131) hC dX1_lives_95 (by decide) ?_ ?_
              · refine V_clr [5, 6, 7] (ls' := [some (.ref a0), some (.int x1), some (.int v2_1), some (.int v3_1), some (.int v4), none, none, none]) rfl ?_
                exact hk_4 v2_1 v3_1
              · refine V_aload_n hC dX1_lives_98 rfl ?_
                refine V_iload hC dX1_lives_99 rfl ?_
                refine V_iload hC dX1_lives_101 rfl ?_
                refine V_cko (fun hm => V_callV_PI (c := 1) (As := [.int y_1, .int y_2]) (rest := []) (d' := 0) hC dX1_lives_103 2 (lw_V q1076 q1078 qs23 q85 q1079) (by decide +kernel) (List.mem_singleton.mp hm) (by decide) (by decide) rfl rfl rfl (Nat.le_of_ble_eq_true rfl) (Nat.le_trans (by decide) hd) (by decide) vMP_l (fun _ h => c_X1_foodIn (Nat.le_refl _) h) (fun r_2 => ?_))
                refine V_iload hC dX1_lives_106 rfl ?_
                refine V_ck (fun h9 => V_idiv hC dX1_lives_108 h9 ?_)
                refine V_iload_n hC dX1_lives_109 rfl ?_
                refine V_icmp_lt (tgt := 116) hC dX1_lives_110 (by decide) ?_ ?_
                · refine V_aload_n hC dX1_lives_116 rfl ?_
                  refine V_iload hC dX1_lives_117 rfl ?_
                  refine V_iload hC dX1_lives_119 rfl ?_
                  refine V_cko (fun hm => V_callV_PI (c := 1) (As := [.int y_1, .int y_2]) (rest := []) (d' := 0) hC dX1_lives_121 2 (lw_V q1076 q1078 qs23 q85 q1079) (by decide +kernel) (List.mem_singleton.mp hm) (by decide) (by decide) rfl rfl rfl (Nat.le_of_ble_eq_true rfl) (Nat.le_trans (by decide) hd) (by decide) vMP_l (fun _ h => c_X1_foodIn (Nat.le_refl _) h) (fun r_3 => ?_))
                  refine V_iload hC dX1_lives_124 rfl ?_
                  refine V_ck (fun h9 => V_idiv hC dX1_lives_126 h9 ?_)
                  refine V_istore_nL (ls' := fun v2_3 => [some (.ref a0), some (.int x1), some (.int v2_3), some (.int v3_1), some (.int v4), some (.int y_1), some (.int y_2), some (.int r_1)]) hC dX1_lives_127 (by decide) rfl (fun _ => rfl) (fun v2_3 => ?_)
                  refine V_iload hC dX1_lives_128 rfl ?_
                  refine V_istore_n (ls' := [some (.ref a0), some (.int x1), some (.int v2_3), some (.int v4), some (.int v4), some (.int y_1), some (.int y_2), some (.int r_1)]) hC dX1_lives_130 (by decide) rfl rfl ?_
                  refine V_clr [5, 6, 7] (ls' := [some (.ref a0), some (.int x1), some (.int v2_3), some (.int v4), some (.int v4), none, none, none]) rfl ?_
                  exact hk_4 v2_3 v4
                · refine V_goto (tgt := 131) hC dX1_lives_113 (by decide) ?_
                  refine V_clr [5, 6, 7] (ls' := [some (.ref a0), some (.int x1), some (.int v2_1), some (.int v3_1), some (.int v4), none, none, none]) rfl ?_
                  exact hk_4 v2_1 v3_1
          · intro k_3 hk_3
            refine V_icmp_ge (tgt := 75) hC dX1_lives_67 (by decide) ?_ ?_
            · refine V_aload_n hC dX1_lives_75 rfl ?_
              refine g_X1_87 hC dX1_lives_76 ?_
              refine V_iconst (v := 1) hC dX1_lives_79 rfl ?_
              refine V_isub hC dX1_lives_80 ?_
              exact hk_3 ((gi σ a0 12) - 1)
            · refine V_iload hC dX1_lives_70 rfl ?_
              refine V_goto (tgt := 81) hC dX1_lives_72 (by decide) ?_
              exact hk_3 v4
        · intro k_2 hk_2
          refine V_let (B := fun k_5 => V (P_X1_lives l d n0 s0) (vEmb eI) σ 57 [some (.ref a0), some (.int x1), some (.int v2_1), some (.int v3_1), some (.int v4), none, none, none] [] (k_5)) ?_ ?_
          · skip
            refine V_iload hC dX1_lives_57 rfl ?_
            refine V_goto (tgt := 63) hC dX1_lives_59 (by decide) ?_
            exact hk_2 v4
          · intro k_5 hk_5
            refine V_if_eq (tgt := 57) hC dX1_lives_49 (by decide) ?_ ?_
            · exact hk_5
            · refine V_iload_n hC dX1_lives_52 rfl ?_
              refine V_iconst (v := 2) hC dX1_lives_53 rfl ?_
              refine V_icmp_ne (tgt := 62) hC dX1_lives_54 (by decide) ?_ ?_
              · refine V_iconst (v := 0) hC dX1_lives_62 rfl ?_
                exact hk_2 0
              · exact hk_5
    · intro k_1 hk_1
      refine V_icmp_ne (tgt := 41) hC dX1_lives_34 (by decide) ?_ ?_
      · refine V_aload_n hC dX1_lives_41 rfl ?_
        refine g_X1_87 hC dX1_lives_42 ?_
        exact hk_1 (gi σ a0 12)
      · refine V_iconst (v := 1) hC dX1_lives_37 rfl ?_
        refine V_goto (tgt := 45) hC dX1_lives_38 (by decide) ?_
        exact hk_1 1
theorem w_X1_lives {l : Launch} {d n0 s0 : Nat} (hd : 1 ≤ d) (σ : vMem) (a0 : Nat) (x1 : Int32) : V (P_X1_lives l d n0 s0) (vEmb eI) σ 0 [some (.ref a0), some (.int x1), none, none, none, none, none, none] [] (f_X1_lives σ a0 x1) := by
  have hC : vPx (P_X1_lives l d n0 s0) cX1_lives 8 "NobodyBeenAft" (some .int) d := vMP_cx
  refine V_eq (f_X1_lives.eq_1 ..) ?_
  refine V_iload_n hC dX1_lives_0 rfl ?_
  refine V_i2l hC dX1_lives_1 ?_
  refine V_lconst (v := 0) hC dX1_lives_2 rfl ?_
  refine V_ldc2 hC dX1_lives_3 q666 ?_
  refine V_callS_PI (As := [.long (Int32.toInt64 x1), .long 0, .long 3]) (rest := []) (d' := 0) hC dX1_lives_6 3 (lw_S q285 q286 q85 q287) (by decide +kernel) rfl rfl (Nat.le_of_ble_eq_true rfl) (Nat.le_trans (by decide) hd) (by decide) vMP_l (fun _ h => c_X1_in (Nat.le_refl _) h) (fun r => ?_)
  refine V_if_eq (tgt := 19) hC dX1_lives_9 (by decide) ?_ ?_
  · refine V_iconst (v := (-1)) hC dX1_lives_19 rfl ?_
    exact V_ireturn dX1_lives_20 rfl rfl
  · refine V_aload_n hC dX1_lives_12 rfl ?_
    refine g_X1_87 hC dX1_lives_13 ?_
    refine V_if_ne (tgt := 21) hC dX1_lives_16 (by decide) ?_ ?_
    · refine V_ldcw hC dX1_lives_21 q1071 ?_
      refine V_istore_n (ls' := [some (.ref a0), some (.int x1), some (.int 99999), none, none, none, none, none]) hC dX1_lives_24 (by decide) rfl rfl ?_
      refine V_iconst (v := (-1)) hC dX1_lives_25 rfl ?_
      refine V_istore_n (ls' := [some (.ref a0), some (.int x1), some (.int 99999), some (.int (-1)), none, none, none, none]) hC dX1_lives_26 (by decide) rfl rfl ?_
      refine V_iconst (v := 0) hC dX1_lives_27 rfl ?_
      refine V_istore (ls' := [some (.ref a0), some (.int x1), some (.int 99999), some (.int (-1)), some (.int 0), none, none, none]) hC dX1_lives_28 (by decide) rfl rfl ?_
      refine V_let (B := fun k => ∀ (v2 : Int32), ∀ (v3 : Int32), V (P_X1_lives l d n0 s0) (vEmb eI) σ 137 [some (.ref a0), none, some (.int v2), some (.int v3), none, none, none, none] [] (k v2 v3)) ?_ ?_
      · intro v2 v3
        refine V_aload_n hC dX1_lives_137 rfl ?_
        refine V_iconst (v := 0) hC dX1_lives_138 rfl ?_
        refine p_X1_84 hC dX1_lives_139 (fun σ_1 => ?_)
        refine V_aload_n hC dX1_lives_142 rfl ?_
        refine V_iload_n hC dX1_lives_143 rfl ?_
        refine V_i2l hC dX1_lives_144 ?_
        refine V_cko (fun hm => V_callV_V (c := 1) (As := [.long (Int32.toInt64 v3)]) (rest := []) (d' := 0) hC dX1_lives_145 1 (lw_V q768 q770 qs17 q85 q771) (by decide +kernel) (List.mem_singleton.mp hm) (by decide) (by decide) rfl rfl rfl (Nat.le_of_ble_eq_true rfl) (Nat.le_trans (by decide) hd) (by decide) vMP_l (fun _ h => c_X1_tell (Nat.le_refl _) h) (fun σ_2 => ?_))
        refine V_iload_n hC dX1_lives_148 rfl ?_
        exact V_ireturn dX1_lives_149 rfl rfl
      · intro k hk
        exact (w_X1_lives_30 hd σ a0 x1 k hk) FU 99999 (-1) 0
    · refine V_iconst (v := (-1)) hC dX1_lives_19 rfl ?_
      exact V_ireturn dX1_lives_20 rfl rfl
theorem c_X1_lives {l : Launch} {d : Nat} (hd : 1 ≤ d) {σ : vMem} {a0 : Nat} {x1 : Int32} {r : Int32 × vMem} (h : f_X1_lives σ a0 x1 = some r) : vOk l yX1_lives cX1_lives 8 (some .int) d [.ref a0, .int x1] σ (.inl ((eI).1 r, (eI).2 r)) := V_method (em := eI) [some (.ref a0), some (.int x1), none, none, none, none, none, none] (by decide +kernel) rfl (Nat.le_of_ble_eq_true rfl) (w_X1_lives hd σ a0 x1) h
/-! NobodyBeenAft.spare(III)I -/
def f_X1_spare (σ : vMem) (a0 : Nat) (x1 : Int32) (x2 : Int32) (x3 : Int32) : Option (Int32) := cko σ a0 [1] (dr (gr σ a0 0) (fun b => cko σ b [2] (dr (gr σ b 0) (fun b_1 => cka σ b_1 105 x1 (cko σ a0 [1] (dr (gr σ a0 7) (fun b_2 => cka σ b_2 105 x1 (some ((x2 + (gi σ b_1 (Int32.toNatClampNeg x1))) - ((gi σ b_2 (Int32.toNatClampNeg x1)) * x3))))))))))
abbrev P_X1_spare (l : Launch) (d n0 s0 : Nat) : vX → Prop := vMP l yX1_spare cX1_spare 4 (some .int) d n0 s0
theorem w_X1_spare {l : Launch} {d n0 s0 : Nat} (hd : 0 ≤ d) (σ : vMem) (a0 : Nat) (x1 : Int32) (x2 : Int32) (x3 : Int32) : V (P_X1_spare l d n0 s0) (vEmb (ePI σ)) σ 0 [some (.ref a0), some (.int x1), some (.int x2), some (.int x3)] [] (f_X1_spare σ a0 x1 x2 x3) := by
  have hC : vPx (P_X1_spare l d n0 s0) cX1_spare 4 "NobodyBeenAft" (some .int) d := vMP_cx
  refine V_eq (f_X1_spare.eq_1 ..) ?_
  refine V_iload_n hC dX1_spare_0 rfl ?_
  refine V_aload_n hC dX1_spare_1 rfl ?_
  refine g_X1_21 hC dX1_spare_2 (fun b => ?_)
  refine g_X1_158 hC dX1_spare_5 (fun b_1 => ?_)
  refine V_iload_n hC dX1_spare_8 rfl ?_
  refine V_iald hC dX1_spare_9 ?_
  refine V_iadd hC dX1_spare_10 ?_
  refine V_aload_n hC dX1_spare_11 rfl ?_
  refine g_X1_45 hC dX1_spare_12 (fun b_2 => ?_)
  refine V_iload_n hC dX1_spare_15 rfl ?_
  refine V_iald hC dX1_spare_16 ?_
  refine V_iload_n hC dX1_spare_17 rfl ?_
  refine V_imul hC dX1_spare_18 ?_
  refine V_isub hC dX1_spare_19 ?_
  exact V_ireturn dX1_spare_20 rfl rfl
theorem c_X1_spare {l : Launch} {d : Nat} (hd : 0 ≤ d) {σ : vMem} {a0 : Nat} {x1 : Int32} {x2 : Int32} {x3 : Int32} {r : Int32} (h : f_X1_spare σ a0 x1 x2 x3 = some r) : vOk l yX1_spare cX1_spare 4 (some .int) d [.ref a0, .int x1, .int x2, .int x3] σ (.inl (((ePI σ)).1 r, ((ePI σ)).2 r)) := V_method (em := (ePI σ)) [some (.ref a0), some (.int x1), some (.int x2), some (.int x3)] (by decide +kernel) rfl (Nat.le_of_ble_eq_true rfl) (w_X1_spare hd σ a0 x1 x2 x3) h
/-! NobodyBeenAft.leastFrom(III)I -/
def f_X1_leastFrom (σ : vMem) (a0 : Nat) (x1 : Int32) (x2 : Int32) (x3 : Int32) : Option (Int32) := cko σ a0 [1] (bp (f_X1_spare σ a0 x1 x2 x3) (fun r => cko σ a0 [1] (if ¬ x1 = ((gi σ a0 12) - 1) then (if (-792) ≤ r then (cko σ a0 [1] (dr (gr σ a0 21) (fun b => cka σ b 112 x1 (dr (gr σ b (Int32.toNatClampNeg x1)) (fun b_1 => cka σ b_1 105 ((imin r 792) + 792) (some (gi σ b_1 (Int32.toNatClampNeg ((imin r 792) + 792))))))))) else some 100000000) else if r < 0 then (some 100000000) else some 0)))
abbrev P_X1_leastFrom (l : Launch) (d n0 s0 : Nat) : vX → Prop := vMP l yX1_leastFrom cX1_leastFrom 5 (some .int) d n0 s0
theorem w_X1_leastFrom {l : Launch} {d n0 s0 : Nat} (hd : 1 ≤ d) (σ : vMem) (a0 : Nat) (x1 : Int32) (x2 : Int32) (x3 : Int32) : V (P_X1_leastFrom l d n0 s0) (vEmb (ePI σ)) σ 0 [some (.ref a0), some (.int x1), some (.int x2), some (.int x3), none] [] (f_X1_leastFrom σ a0 x1 x2 x3) := by
  have hC : vPx (P_X1_leastFrom l d n0 s0) cX1_leastFrom 5 "NobodyBeenAft" (some .int) d := vMP_cx
  refine V_eq (f_X1_leastFrom.eq_1 ..) ?_
  refine V_aload_n hC dX1_leastFrom_0 rfl ?_
  refine V_iload_n hC dX1_leastFrom_1 rfl ?_
  refine V_iload_n hC dX1_leastFrom_2 rfl ?_
  refine V_iload_n hC dX1_leastFrom_3 rfl ?_
  refine V_cko (fun hm => V_callV_PI (c := 1) (As := [.int x1, .int x2, .int x3]) (rest := []) (d' := 0) hC dX1_leastFrom_4 3 (lw_V q1091 q1093 qs25 q85 q1094) (by decide +kernel) (List.mem_singleton.mp hm) (by decide) (by decide) rfl rfl rfl (Nat.le_of_ble_eq_true rfl) (Nat.le_trans (by decide) hd) (by decide) vMP_l (fun _ h => c_X1_spare (Nat.le_refl _) h) (fun r => ?_))
  refine V_istore (ls' := [some (.ref a0), some (.int x1), some (.int x2), some (.int x3), some (.int r)]) hC dX1_leastFrom_7 (by decide) rfl rfl ?_
  refine V_iload_n hC dX1_leastFrom_9 rfl ?_
  refine V_aload_n hC dX1_leastFrom_10 rfl ?_
  refine g_X1_87 hC dX1_leastFrom_11 ?_
  refine V_iconst (v := 1) hC dX1_leastFrom_14 rfl ?_
  refine V_isub hC dX1_leastFrom_15 ?_
  refine V_icmp_ne (tgt := 32) hC dX1_leastFrom_16 (by decide) ?_ ?_
  · refine V_iload hC dX1_leastFrom_32 rfl ?_
    refine V_sipush (v := (-792)) hC dX1_leastFrom_34 rfl ?_
    refine V_icmp_ge (tgt := 46) hC dX1_leastFrom_37 (by decide) ?_ ?_
    · refine V_aload_n hC dX1_leastFrom_46 rfl ?_
      refine g_X1_62 hC dX1_leastFrom_47 (fun b => ?_)
      refine V_iload_n hC dX1_leastFrom_50 rfl ?_
      refine V_aald (k := 112) (t0 := 8) hC dX1_leastFrom_51 (by decide) (fun _ => rfl) rfl (V_dr fun b_1 => ?_)
      refine V_iload hC dX1_leastFrom_52 rfl ?_
      refine V_sipush (v := 792) hC dX1_leastFrom_54 rfl ?_
      refine V_mmin hC dX1_leastFrom_57 q675 q327 q90 q328 (Nat.le_of_ble_eq_true rfl) ?_
      refine V_sipush (v := 792) hC dX1_leastFrom_60 rfl ?_
      refine V_iadd hC dX1_leastFrom_63 ?_
      refine V_iald hC dX1_leastFrom_64 ?_
      exact V_ireturn dX1_leastFrom_65 rfl rfl
    · refine V_ldcw hC dX1_leastFrom_40 q972 ?_
      refine V_goto (tgt := 65) hC dX1_leastFrom_43 (by decide) ?_
      exact V_ireturn dX1_leastFrom_65 rfl rfl
  · refine V_iload hC dX1_leastFrom_19 rfl ?_
    refine V_if_lt (tgt := 28) hC dX1_leastFrom_21 (by decide) ?_ ?_
    · refine V_ldcw hC dX1_leastFrom_28 q972 ?_
      exact V_ireturn dX1_leastFrom_31 rfl rfl
    · refine V_iconst (v := 0) hC dX1_leastFrom_24 rfl ?_
      refine V_goto (tgt := 31) hC dX1_leastFrom_25 (by decide) ?_
      exact V_ireturn dX1_leastFrom_31 rfl rfl
theorem c_X1_leastFrom {l : Launch} {d : Nat} (hd : 1 ≤ d) {σ : vMem} {a0 : Nat} {x1 : Int32} {x2 : Int32} {x3 : Int32} {r : Int32} (h : f_X1_leastFrom σ a0 x1 x2 x3 = some r) : vOk l yX1_leastFrom cX1_leastFrom 5 (some .int) d [.ref a0, .int x1, .int x2, .int x3] σ (.inl (((ePI σ)).1 r, ((ePI σ)).2 r)) := V_method (em := (ePI σ)) [some (.ref a0), some (.int x1), some (.int x2), some (.int x3), none] (by decide +kernel) rfl (Nat.le_of_ble_eq_true rfl) (w_X1_leastFrom hd σ a0 x1 x2 x3) h
/-! NobodyBeenAft.shares(I)I -/
def f_X1_shares_170 (a0 : Nat) (x1 : Int32) (r_3 : Int32) (σ_3 : vMem) (v4 : Int32) (r_4 : Int32) (k_1 : Int32 → Option (Int32 × vMem)) : Nat → Int32 → Option (Int32 × vMem)
  | 0, _ => none
  | n_1 + 1, v6_1 => cko σ_3 a0 [1] (bp (f_X1_leastFrom σ_3 a0 (v4 + 1) v6_1 x1) (fun r_5 => if ((iabs v6_1) + r_5) = r_4 then (k_1 v6_1) else vl (v6_1 + 1) (fun v6_2 => f_X1_shares_170 a0 x1 r_3 σ_3 v4 r_4 k_1 n_1 v6_2)))
def f_X1_shares_144 (a0 : Nat) (x1 : Int32) (r_3 : Int32) : Nat → vMem → Int32 → Int32 → Option (Int32 × vMem)
  | 0, _, _, _ => none
  | n + 1, σ_3, v3, v4 => cko σ_3 a0 [1] (if ((gi σ_3 a0 12) - 1) ≤ v4 then (some (r_3, σ_3)) else cko σ_3 a0 [1] (bp (f_X1_leastFrom σ_3 a0 v4 v3 x1) (fun r_4 => vl (fun (v6 : Int32) => cko σ_3 a0 [1] (bv (f_X1_tell σ_3 a0 (Int32.toInt64 v6)) (fun σ_4 => vl (v4 + 1) (fun v4_1 => f_X1_shares_144 a0 x1 r_3 n σ_4 v6 v4_1)))) (fun k_1 => f_X1_shares_170 a0 x1 r_3 σ_3 v4 r_4 k_1 FU (-792)))))
def f_X1_shares_71 (a0 : Nat) (x1 : Int32) (v2_1 : Int32) (k_2 : vMem → Option (Int32 × vMem)) : Nat → vMem → Int32 → Int32 → Option (Int32 × vMem)
  | 0, _, _, _ => none
  | n_3 + 1, σ_7, v3_1, v4_2 => if 792 < v4_2 then (k_2 σ_7) else cko σ_7 a0 [1] (bp (f_X1_leastFrom σ_7 a0 (v2_1 + 1) v4_2 x1) (fun r_6 => vl (imin v3_1 ((iabs v4_2) + r_6)) (fun v3_2 => cko σ_7 a0 [1] (dr (gr σ_7 a0 21) (fun b => cka σ_7 b 112 v2_1 (dr (gr σ_7 b (Int32.toNatClampNeg v2_1)) (fun b_1 => cka σ_7 b_1 105 (v4_2 + 792) (vl (si σ_7 b_1 (Int32.toNatClampNeg (v4_2 + 792)) v3_2) (fun σ_8 => vl (v4_2 + 1) (fun v4_3 => f_X1_shares_71 a0 x1 v2_1 k_2 n_3 σ_8 v3_2 v4_3))))))))))
def f_X1_shares_58 (a0 : Nat) (x1 : Int32) (k : vMem → Option (Int32 × vMem)) : Nat → vMem → Int32 → Option (Int32 × vMem)
  | 0, _, _ => none
  | n_2 + 1, σ_5, v2_1 => if v2_1 < 0 then (k σ_5) else vl (fun (σ_6 : vMem) => vl (v2_1 + (-1)) (fun v2_2 => f_X1_shares_58 a0 x1 k n_2 σ_6 v2_2)) (fun k_2 => f_X1_shares_71 a0 x1 v2_1 k_2 FU σ_5 100000000 (-792))
def f_X1_shares (σ : vMem) (a0 : Nat) (x1 : Int32) : Option (Int32 × vMem) := bp (f_X1_in σ (Int32.toInt64 x1) 0 99) (fun r => if r = 0 then (some ((-1), σ)) else cko σ a0 [1] (if ¬ (gi σ a0 12) = 0 then (cko σ a0 [1] (cko σ a0 [1] (bp (f_X1_foodIn σ a0 0 ((gi σ a0 12) - 1)) (fun r_1 => cko σ a0 [1] (cko σ a0 [1] (bp (f_X1_eatsIn σ a0 0 ((gi σ a0 12) - 1)) (fun r_2 => if (r_2 * x1) ≤ r_1 then (cko σ a0 [1] (vl ((gi σ a0 12) - 2) (fun v2 => vl (fun (σ_1 : vMem) => cko σ_1 a0 [1] (bp (f_X1_leastFrom σ_1 a0 0 0 x1) (fun r_3 => cko σ_1 a0 [1] (vl (si σ_1 a0 18 0) (fun σ_2 => f_X1_shares_144 a0 x1 r_3 FU σ_2 0 0))))) (fun k => f_X1_shares_58 a0 x1 k FU σ v2)))) else some ((-2), σ)))))))) else some ((-1), σ)))
abbrev P_X1_shares (l : Launch) (d n0 s0 : Nat) : vX → Prop := vMP l yX1_shares cX1_shares 7 (some .int) d n0 s0
theorem w_X1_shares_170 {l : Launch} {d n0 s0 : Nat} (hd : 2 ≤ d) (a0 : Nat) (x1 : Int32) (r_3 : Int32) (σ_3 : vMem) (v4 : Int32) (r_4 : Int32) (k_1 : Int32 → Option (Int32 × vMem)) (hk_1 : ∀ (v6 : Int32), V (P_X1_shares l d n0 s0) (vEmb eI) σ_3 198 [some (.ref a0), some (.int x1), some (.int r_3), none, some (.int v4), none, some (.int v6)] [] (k_1 v6)) : ∀ (n_1 : Nat) (v6_1 : Int32), V (P_X1_shares l d n0 s0) (vEmb eI) σ_3 170 [some (.ref a0), some (.int x1), some (.int r_3), none, some (.int v4), some (.int r_4), some (.int v6_1)] [] (f_X1_shares_170 a0 x1 r_3 σ_3 v4 r_4 k_1 n_1 v6_1) := by
  have hC : vPx (P_X1_shares l d n0 s0) cX1_shares 7 "NobodyBeenAft" (some .int) d := vMP_cx
  intro n_1
  induction n_1 with
  | zero =>
    intro v6_1
    exact V_none
  | succ n_1 ih =>
    intro v6_1
    refine V_eq (f_X1_shares_170.eq_2 ..) ?_
    refine V_iload hC dX1_shares_170 rfl ?_
    refine V_mabs hC dX1_shares_172 q1084 q1085 q90 q1086 (Nat.le_of_ble_eq_true rfl) ?_
    refine V_aload_n hC dX1_shares_175 rfl ?_
    refine V_iload hC dX1_shares_176 rfl ?_
    refine V_iconst (v := 1) hC dX1_shares_178 rfl ?_
    refine V_iadd hC dX1_shares_179 ?_
    refine V_iload hC dX1_shares_180 rfl ?_
    refine V_iload_n hC dX1_shares_182 rfl ?_
    refine V_cko (fun hm => V_callV_PI (c := 1) (As := [.int (v4 + 1), .int v6_1, .int x1]) (rest := [.int (iabs v6_1)]) (d' := 1) hC dX1_shares_183 3 (lw_V q1087 q1089 qs24 q85 q1090) (by decide +kernel) (List.mem_singleton.mp hm) (by decide) (by decide) rfl rfl rfl (Nat.le_of_ble_eq_true rfl) (Nat.le_trans (by decide) hd) (by decide) vMP_l (fun _ h => c_X1_leastFrom (Nat.le_refl _) h) (fun r_5 => ?_))
    refine V_iadd hC dX1_shares_186 ?_
    refine V_iload hC dX1_shares_187 rfl ?_
    refine V_icmp_eq (tgt := 198) hC dX1_shares_189 (by decide) ?_ ?_
    · refine V_clr [5] (ls' := [some (.ref a0), some (.int x1), some (.int r_3), none, some (.int v4), none, some (.int v6_1)]) rfl ?_
      exact hk_1 v6_1
    · refine V_iincL (v := v6_1 + 1) (ls' := fun v6_2 => [some (.ref a0), some (.int x1), some (.int r_3), none, some (.int v4), some (.int r_4), some (.int v6_2)]) hC dX1_shares_192 rfl (by decide) rfl rfl (fun _ => rfl) (fun v6_2 => ?_)
      refine V_goto (tgt := 170) hC dX1_shares_195 (by decide) ?_
      exact ih v6_2
theorem w_X1_shares_144 {l : Launch} {d n0 s0 : Nat} (hd : 2 ≤ d) (a0 : Nat) (x1 : Int32) (r_3 : Int32)  : ∀ (n : Nat) (σ_3 : vMem) (v3 : Int32) (v4 : Int32), V (P_X1_shares l d n0 s0) (vEmb eI) σ_3 144 [some (.ref a0), some (.int x1), some (.int r_3), some (.int v3), some (.int v4), none, none] [] (f_X1_shares_144 a0 x1 r_3 n σ_3 v3 v4) := by
  have hC : vPx (P_X1_shares l d n0 s0) cX1_shares 7 "NobodyBeenAft" (some .int) d := vMP_cx
  intro n
  induction n with
  | zero =>
    intro σ_3 v3 v4
    exact V_none
  | succ n ih =>
    intro σ_3 v3 v4
    refine V_eq (f_X1_shares_144.eq_2 ..) ?_
    refine V_iload hC dX1_shares_144 rfl ?_
    refine V_aload_n hC dX1_shares_146 rfl ?_
    refine g_X1_87 hC dX1_shares_147 ?_
    refine V_iconst (v := 1) hC dX1_shares_150 rfl ?_
    refine V_isub hC dX1_shares_151 ?_
    refine V_icmp_ge (tgt := 214) hC dX1_shares_152 (by decide) ?_ ?_
    · refine V_iload_n hC dX1_shares_214 rfl ?_
      exact V_ireturn dX1_shares_215 rfl rfl
    · refine V_aload_n hC dX1_shares_155 rfl ?_
      refine V_iload hC dX1_shares_156 rfl ?_
      refine V_iload_n hC dX1_shares_158 rfl ?_
      refine V_iload_n hC dX1_shares_159 rfl ?_
      refine V_cko (fun hm => V_callV_PI (c := 1) (As := [.int v4, .int v3, .int x1]) (rest := []) (d' := 1) hC dX1_shares_160 3 (lw_V q1087 q1089 qs24 q85 q1090) (by decide +kernel) (List.mem_singleton.mp hm) (by decide) (by decide) rfl rfl rfl (Nat.le_of_ble_eq_true rfl) (Nat.le_trans (by decide) hd) (by decide) vMP_l (fun _ h => c_X1_leastFrom (Nat.le_refl _) h) (fun r_4 => ?_))
      refine V_istore (ls' := [some (.ref a0), some (.int x1), some (.int r_3), some (.int v3), some (.int v4), some (.int r_4), none]) hC dX1_shares_163 (by decide) rfl rfl ?_
      refine V_sipush (v := (-792)) hC dX1_shares_165 rfl ?_
      refine V_istore (ls' := [some (.ref a0), some (.int x1), some (.int r_3), some (.int v3), some (.int v4), some (.int r_4), some (.int (-792))]) hC dX1_shares_168 (by decide) rfl rfl ?_
      refine V_let (B := fun k_1 => ∀ (v6 : Int32), V (P_X1_shares l d n0 s0) (vEmb eI) σ_3 198 [some (.ref a0), some (.int x1), some (.int r_3), none, some (.int v4), none, some (.int v6)] [] (k_1 v6)) ?_ ?_
      · intro v6
        refine V_aload_n hC dX1_shares_198 rfl ?_
        refine V_iload hC dX1_shares_199 rfl ?_
        refine V_i2l hC dX1_shares_201 ?_
        refine V_cko (fun hm => V_callV_V (c := 1) (As := [.long (Int32.toInt64 v6)]) (rest := []) (d' := 0) hC dX1_shares_202 1 (lw_V q768 q770 qs17 q85 q771) (by decide +kernel) (List.mem_singleton.mp hm) (by decide) (by decide) rfl rfl rfl (Nat.le_of_ble_eq_true rfl) (Nat.le_trans (by decide) hd) (by decide) vMP_l (fun _ h => c_X1_tell (Nat.le_refl _) h) (fun σ_4 => ?_))
        refine V_iload hC dX1_shares_205 rfl ?_
        refine V_istore_n (ls' := [some (.ref a0), some (.int x1), some (.int r_3), some (.int v6), some (.int v4), none, some (.int v6)]) hC dX1_shares_207 (by decide) rfl rfl ?_
        refine V_iincL (v := v4 + 1) (ls' := fun v4_1 => [some (.ref a0), some (.int x1), some (.int r_3), some (.int v6), some (.int v4_1), none, some (.int v6)]) hC dX1_shares_208 rfl (by decide) rfl rfl (fun _ => rfl) (fun v4_1 => ?_)
        refine V_goto (tgt := 144) hC dX1_shares_211 (by decide) ?_
        refine V_clr [6] (ls' := [some (.ref a0), some (.int x1), some (.int r_3), some (.int v6), some (.int v4_1), none, none]) rfl ?_
        exact ih σ_4 v6 v4_1
      · intro k_1 hk_1
        refine V_clr [3] (ls' := [some (.ref a0), some (.int x1), some (.int r_3), none, some (.int v4), some (.int r_4), some (.int (-792))]) rfl ?_
        exact (w_X1_shares_170 hd a0 x1 r_3 σ_3 v4 r_4 k_1 hk_1) FU (-792)
theorem w_X1_shares_71 {l : Launch} {d n0 s0 : Nat} (hd : 2 ≤ d) (a0 : Nat) (x1 : Int32) (v2_1 : Int32) (k_2 : vMem → Option (Int32 × vMem)) (hk_2 : ∀ (σ_6 : vMem), V (P_X1_shares l d n0 s0) (vEmb eI) σ_6 120 [some (.ref a0), some (.int x1), some (.int v2_1), none, none, none, none] [] (k_2 σ_6)) : ∀ (n_3 : Nat) (σ_7 : vMem) (v3_1 : Int32) (v4_2 : Int32), V (P_X1_shares l d n0 s0) (vEmb eI) σ_7 71 [some (.ref a0), some (.int x1), some (.int v2_1), some (.int v3_1), some (.int v4_2), none, none] [] (f_X1_shares_71 a0 x1 v2_1 k_2 n_3 σ_7 v3_1 v4_2) := by
  have hC : vPx (P_X1_shares l d n0 s0) cX1_shares 7 "NobodyBeenAft" (some .int) d := vMP_cx
  intro n_3
  induction n_3 with
  | zero =>
    intro σ_7 v3_1 v4_2
    exact V_none
  | succ n_3 ih =>
    intro σ_7 v3_1 v4_2
    refine V_eq (f_X1_shares_71.eq_2 ..) ?_
    refine V_iload hC dX1_shares_71 rfl ?_
    refine V_sipush (v := 792) hC dX1_shares_73 rfl ?_
    refine V_icmp_gt (tgt := 120) hC dX1_shares_76 (by decide) ?_ ?_
    · refine V_clr [3, 4] (ls' := [some (.ref a0), some (.int x1), some (.int v2_1), none, none, none, none]) rfl ?_
      exact hk_2 σ_7
    · refine V_iload_n hC dX1_shares_79 rfl ?_
      refine V_iload hC dX1_shares_80 rfl ?_
      refine V_mabs hC dX1_shares_82 q1084 q1085 q90 q1086 (Nat.le_of_ble_eq_true rfl) ?_
      refine V_aload_n hC dX1_shares_85 rfl ?_
      refine V_iload_n hC dX1_shares_86 rfl ?_
      refine V_iconst (v := 1) hC dX1_shares_87 rfl ?_
      refine V_iadd hC dX1_shares_88 ?_
      refine V_iload hC dX1_shares_89 rfl ?_
      refine V_iload_n hC dX1_shares_91 rfl ?_
      refine V_cko (fun hm => V_callV_PI (c := 1) (As := [.int (v2_1 + 1), .int v4_2, .int x1]) (rest := [.int (iabs v4_2), .int v3_1]) (d' := 1) hC dX1_shares_92 3 (lw_V q1087 q1089 qs24 q85 q1090) (by decide +kernel) (List.mem_singleton.mp hm) (by decide) (by decide) rfl rfl rfl (Nat.le_of_ble_eq_true rfl) (Nat.le_trans (by decide) hd) (by decide) vMP_l (fun _ h => c_X1_leastFrom (Nat.le_refl _) h) (fun r_6 => ?_))
      refine V_iadd hC dX1_shares_95 ?_
      refine V_mmin hC dX1_shares_96 q675 q327 q90 q328 (Nat.le_of_ble_eq_true rfl) ?_
      refine V_istore_nL (ls' := fun v3_2 => [some (.ref a0), some (.int x1), some (.int v2_1), some (.int v3_2), some (.int v4_2), none, none]) hC dX1_shares_99 (by decide) rfl (fun _ => rfl) (fun v3_2 => ?_)
      refine V_aload_n hC dX1_shares_100 rfl ?_
      refine g_X1_62 hC dX1_shares_101 (fun b => ?_)
      refine V_iload_n hC dX1_shares_104 rfl ?_
      refine V_aald (k := 112) (t0 := 8) hC dX1_shares_105 (by decide) (fun _ => rfl) rfl (V_dr fun b_1 => ?_)
      refine V_iload hC dX1_shares_106 rfl ?_
      refine V_sipush (v := 792) hC dX1_shares_108 rfl ?_
      refine V_iadd hC dX1_shares_111 ?_
      refine V_iload_n hC dX1_shares_112 rfl ?_
      refine V_iast hC dX1_shares_113 (fun σ_8 => ?_)
      refine V_iincL (v := v4_2 + 1) (ls' := fun v4_3 => [some (.ref a0), some (.int x1), some (.int v2_1), some (.int v3_2), some (.int v4_3), none, none]) hC dX1_shares_114 rfl (by decide) rfl rfl (fun _ => rfl) (fun v4_3 => ?_)
      refine V_goto (tgt := 71) hC dX1_shares_117 (by decide) ?_
      exact ih σ_8 v3_2 v4_3
theorem w_X1_shares_58 {l : Launch} {d n0 s0 : Nat} (hd : 2 ≤ d) (a0 : Nat) (x1 : Int32) (k : vMem → Option (Int32 × vMem)) (hk : ∀ (σ_1 : vMem), V (P_X1_shares l d n0 s0) (vEmb eI) σ_1 126 [some (.ref a0), some (.int x1), none, none, none, none, none] [] (k σ_1)) : ∀ (n_2 : Nat) (σ_5 : vMem) (v2_1 : Int32), V (P_X1_shares l d n0 s0) (vEmb eI) σ_5 58 [some (.ref a0), some (.int x1), some (.int v2_1), none, none, none, none] [] (f_X1_shares_58 a0 x1 k n_2 σ_5 v2_1) := by
  have hC : vPx (P_X1_shares l d n0 s0) cX1_shares 7 "NobodyBeenAft" (some .int) d := vMP_cx
  intro n_2
  induction n_2 with
  | zero =>
    intro σ_5 v2_1
    exact V_none
  | succ n_2 ih =>
    intro σ_5 v2_1
    refine V_eq (f_X1_shares_58.eq_2 ..) ?_
    refine V_iload_n hC dX1_shares_58 rfl ?_
    refine V_if_lt (tgt := 126) hC dX1_shares_59 (by decide) ?_ ?_
    · refine V_clr [2] (ls' := [some (.ref a0), some (.int x1), none, none, none, none, none]) rfl ?_
      exact hk σ_5
    · refine V_ldcw hC dX1_shares_62 q972 ?_
      refine V_istore_n (ls' := [some (.ref a0), some (.int x1), some (.int v2_1), some (.int 100000000), none, none, none]) hC dX1_shares_65 (by decide) rfl rfl ?_
      refine V_sipush (v := (-792)) hC dX1_shares_66 rfl ?_
      refine V_istore (ls' := [some (.ref a0), some (.int x1), some (.int v2_1), some (.int 100000000), some (.int (-792)), none, none]) hC dX1_shares_69 (by decide) rfl rfl ?_
      refine V_let (B := fun k_2 => ∀ (σ_6 : vMem), V (P_X1_shares l d n0 s0) (vEmb eI) σ_6 120 [some (.ref a0), some (.int x1), some (.int v2_1), none, none, none, none] [] (k_2 σ_6)) ?_ ?_
      · intro σ_6
        refine V_iincL (v := v2_1 + (-1)) (ls' := fun v2_2 => [some (.ref a0), some (.int x1), some (.int v2_2), none, none, none, none]) hC dX1_shares_120 rfl (by decide) rfl rfl (fun _ => rfl) (fun v2_2 => ?_)
        refine V_goto (tgt := 58) hC dX1_shares_123 (by decide) ?_
        exact ih σ_6 v2_2
      · intro k_2 hk_2
        exact (w_X1_shares_71 hd a0 x1 v2_1 k_2 hk_2) FU σ_5 100000000 (-792)
theorem w_X1_shares {l : Launch} {d n0 s0 : Nat} (hd : 2 ≤ d) (σ : vMem) (a0 : Nat) (x1 : Int32) : V (P_X1_shares l d n0 s0) (vEmb eI) σ 0 [some (.ref a0), some (.int x1), none, none, none, none, none] [] (f_X1_shares σ a0 x1) := by
  have hC : vPx (P_X1_shares l d n0 s0) cX1_shares 7 "NobodyBeenAft" (some .int) d := vMP_cx
  refine V_eq (f_X1_shares.eq_1 ..) ?_
  refine V_iload_n hC dX1_shares_0 rfl ?_
  refine V_i2l hC dX1_shares_1 ?_
  refine V_lconst (v := 0) hC dX1_shares_2 rfl ?_
  refine V_ldc2 hC dX1_shares_3 q735 ?_
  refine V_callS_PI (As := [.long (Int32.toInt64 x1), .long 0, .long 99]) (rest := []) (d' := 0) hC dX1_shares_6 3 (lw_S q285 q286 q85 q287) (by decide +kernel) rfl rfl (Nat.le_of_ble_eq_true rfl) (Nat.le_trans (by decide) hd) (by decide) vMP_l (fun _ h => c_X1_in (Nat.le_refl _) h) (fun r => ?_)
  refine V_if_eq (tgt := 19) hC dX1_shares_9 (by decide) ?_ ?_
  · refine V_iconst (v := (-1)) hC dX1_shares_19 rfl ?_
    exact V_ireturn dX1_shares_20 rfl rfl
  · refine V_aload_n hC dX1_shares_12 rfl ?_
    refine g_X1_87 hC dX1_shares_13 ?_
    refine V_if_ne (tgt := 21) hC dX1_shares_16 (by decide) ?_ ?_
    · refine V_aload_n hC dX1_shares_21 rfl ?_
      refine V_iconst (v := 0) hC dX1_shares_22 rfl ?_
      refine V_aload_n hC dX1_shares_23 rfl ?_
      refine g_X1_87 hC dX1_shares_24 ?_
      refine V_iconst (v := 1) hC dX1_shares_27 rfl ?_
      refine V_isub hC dX1_shares_28 ?_
      refine V_cko (fun hm => V_callV_PI (c := 1) (As := [.int 0, .int ((gi σ a0 12) - 1)]) (rest := []) (d' := 0) hC dX1_shares_29 2 (lw_V q1076 q1078 qs23 q85 q1079) (by decide +kernel) (List.mem_singleton.mp hm) (by decide) (by decide) rfl rfl rfl (Nat.le_of_ble_eq_true rfl) (Nat.le_trans (by decide) hd) (by decide) vMP_l (fun _ h => c_X1_foodIn (Nat.le_refl _) h) (fun r_1 => ?_))
      refine V_aload_n hC dX1_shares_32 rfl ?_
      refine V_iconst (v := 0) hC dX1_shares_33 rfl ?_
      refine V_aload_n hC dX1_shares_34 rfl ?_
      refine g_X1_87 hC dX1_shares_35 ?_
      refine V_iconst (v := 1) hC dX1_shares_38 rfl ?_
      refine V_isub hC dX1_shares_39 ?_
      refine V_cko (fun hm => V_callV_PI (c := 1) (As := [.int 0, .int ((gi σ a0 12) - 1)]) (rest := [.int r_1]) (d' := 0) hC dX1_shares_40 2 (lw_V q1072 q1074 qs22 q85 q1075) (by decide +kernel) (List.mem_singleton.mp hm) (by decide) (by decide) rfl rfl rfl (Nat.le_of_ble_eq_true rfl) (Nat.le_trans (by decide) hd) (by decide) vMP_l (fun _ h => c_X1_eatsIn (Nat.le_refl _) h) (fun r_2 => ?_))
      refine V_iload_n hC dX1_shares_43 rfl ?_
      refine V_imul hC dX1_shares_44 ?_
      refine V_icmp_ge (tgt := 51) hC dX1_shares_45 (by decide) ?_ ?_
      · refine V_aload_n hC dX1_shares_51 rfl ?_
        refine g_X1_87 hC dX1_shares_52 ?_
        refine V_iconst (v := 2) hC dX1_shares_55 rfl ?_
        refine V_isub hC dX1_shares_56 ?_
        refine V_istore_nL (ls' := fun v2 => [some (.ref a0), some (.int x1), some (.int v2), none, none, none, none]) hC dX1_shares_57 (by decide) rfl (fun _ => rfl) (fun v2 => ?_)
        refine V_let (B := fun k => ∀ (σ_1 : vMem), V (P_X1_shares l d n0 s0) (vEmb eI) σ_1 126 [some (.ref a0), some (.int x1), none, none, none, none, none] [] (k σ_1)) ?_ ?_
        · intro σ_1
          refine V_aload_n hC dX1_shares_126 rfl ?_
          refine V_iconst (v := 0) hC dX1_shares_127 rfl ?_
          refine V_iconst (v := 0) hC dX1_shares_128 rfl ?_
          refine V_iload_n hC dX1_shares_129 rfl ?_
          refine V_cko (fun hm => V_callV_PI (c := 1) (As := [.int 0, .int 0, .int x1]) (rest := []) (d' := 1) hC dX1_shares_130 3 (lw_V q1087 q1089 qs24 q85 q1090) (by decide +kernel) (List.mem_singleton.mp hm) (by decide) (by decide) rfl rfl rfl (Nat.le_of_ble_eq_true rfl) (Nat.le_trans (by decide) hd) (by decide) vMP_l (fun _ h => c_X1_leastFrom (Nat.le_refl _) h) (fun r_3 => ?_))
          refine V_istore_n (ls' := [some (.ref a0), some (.int x1), some (.int r_3), none, none, none, none]) hC dX1_shares_133 (by decide) rfl rfl ?_
          refine V_iconst (v := 0) hC dX1_shares_134 rfl ?_
          refine V_istore_n (ls' := [some (.ref a0), some (.int x1), some (.int r_3), some (.int 0), none, none, none]) hC dX1_shares_135 (by decide) rfl rfl ?_
          refine V_aload_n hC dX1_shares_136 rfl ?_
          refine V_iconst (v := 0) hC dX1_shares_137 rfl ?_
          refine p_X1_84 hC dX1_shares_138 (fun σ_2 => ?_)
          refine V_iconst (v := 0) hC dX1_shares_141 rfl ?_
          refine V_istore (ls' := [some (.ref a0), some (.int x1), some (.int r_3), some (.int 0), some (.int 0), none, none]) hC dX1_shares_142 (by decide) rfl rfl ?_
          exact (w_X1_shares_144 hd a0 x1 r_3) FU σ_2 0 0
        · intro k hk
          exact (w_X1_shares_58 hd a0 x1 k hk) FU σ v2
      · refine V_bipush (v := (-2)) hC dX1_shares_48 rfl ?_
        exact V_ireturn dX1_shares_50 rfl rfl
    · refine V_iconst (v := (-1)) hC dX1_shares_19 rfl ?_
      exact V_ireturn dX1_shares_20 rfl rfl
theorem c_X1_shares {l : Launch} {d : Nat} (hd : 2 ≤ d) {σ : vMem} {a0 : Nat} {x1 : Int32} {r : Int32 × vMem} (h : f_X1_shares σ a0 x1 = some r) : vOk l yX1_shares cX1_shares 7 (some .int) d [.ref a0, .int x1] σ (.inl ((eI).1 r, (eI).2 r)) := V_method (em := eI) [some (.ref a0), some (.int x1), none, none, none, none, none] (by decide +kernel) rfl (Nat.le_of_ble_eq_true rfl) (w_X1_shares hd σ a0 x1) h
/-! NobodyBeenAft.fast(I)I -/
def f_X1_fast_58 (σ : vMem) (a0 : Nat) (x1 : Int32) (r_1 : Int32) (v3_1 : Int32) (v4_1 : Int32) (v5 : Int32) (k_1 : Int32 → Option (Int32 × vMem)) : Nat → Int32 → Int32 → Option (Int32 × vMem)
  | 0, _, _ => none
  | n_1 + 1, v6_1, v7 => cko σ a0 [1] (if (gi σ a0 12) ≤ v7 then (k_1 v6_1) else bp (f_X1_has σ v5 v7) (fun r_5 => vl (fun (y : Int32) => vl (v6_1 + y) (fun v6_2 => vl (v7 + 1) (fun v7_1 => f_X1_fast_58 σ a0 x1 r_1 v3_1 v4_1 v5 k_1 n_1 v6_2 v7_1))) (fun k_4 => if r_5 = 0 then (cko σ a0 [1] (dr (gr σ a0 7) (fun b => cka σ b 105 v7 (k_4 ((gi σ b (Int32.toNatClampNeg v7)) * x1))))) else k_4 0)))
def f_X1_fast_41 (σ : vMem) (a0 : Nat) (x1 : Int32) (r_1 : Int32) (k : Int32 → Int32 → Option (Int32 × vMem)) : Nat → Int32 → Int32 → Int32 → Option (Int32 × vMem)
  | 0, _, _, _ => none
  | n + 1, v3_1, v4_1, v5 => cko σ a0 [1] (if (1 <<< ((gi σ a0 12) &&& 31)) ≤ v5 then (k v3_1 v4_1) else vl (fun (v6 : Int32) => vl (fun (v3_2 : Int32) (v4_2 : Int32) => vl (v5 + 1) (fun v5_1 => f_X1_fast_41 σ a0 x1 r_1 k n v3_2 v4_2 v5_1)) (fun k_2 => if r_1 < v6 then (k_2 v3_1 v4_1) else vl (vl (r_1 - v6) (fun v4_3 => k_2 v5 v4_3)) (fun k_3 => if v3_1 = (-1) then k_3 else bp (f_J7_bitCount σ v5) (fun r_3 => bp (f_J7_bitCount σ v3_1) (fun r_4 => if r_3 < r_4 then k_3 else k_2 v3_1 v4_1))))) (fun k_1 => f_X1_fast_58 σ a0 x1 r_1 v3_1 v4_1 v5 k_1 FU 0 0))
def f_X1_fast (σ : vMem) (a0 : Nat) (x1 : Int32) : Option (Int32 × vMem) := bp (f_X1_in σ (Int32.toInt64 x1) 0 99) (fun r => if r = 0 then (some ((-1), σ)) else cko σ a0 [1] (if ¬ (gi σ a0 12) = 0 then (cko σ a0 [1] (cko σ a0 [1] (bp (f_X1_foodIn σ a0 0 ((gi σ a0 12) - 1)) (fun r_1 => vl (fun (v3 : Int32) (v4 : Int32) => cko σ a0 [1] (vl (si σ a0 18 0) (fun σ_1 => bp (f_J7_bitCount σ_1 v3) (fun r_2 => cko σ_1 a0 [1] (bv (f_X1_tell σ_1 a0 (Int32.toInt64 r_2)) (fun σ_2 => cko σ_2 a0 [1] (bv (f_X1_tell σ_2 a0 (Int32.toInt64 v4)) (fun σ_3 => some (v3, σ_3))))))))) (fun k => f_X1_fast_41 σ a0 x1 r_1 k FU (-1) 0 0))))) else some ((-1), σ)))
abbrev P_X1_fast (l : Launch) (d n0 s0 : Nat) : vX → Prop := vMP l yX1_fast cX1_fast 8 (some .int) d n0 s0
theorem w_X1_fast_58 {l : Launch} {d n0 s0 : Nat} (hd : 1 ≤ d) (σ : vMem) (a0 : Nat) (x1 : Int32) (r_1 : Int32) (v3_1 : Int32) (v4_1 : Int32) (v5 : Int32) (k_1 : Int32 → Option (Int32 × vMem)) (hk_1 : ∀ (v6 : Int32), V (P_X1_fast l d n0 s0) (vEmb eI) σ 101 [some (.ref a0), some (.int x1), some (.int r_1), some (.int v3_1), some (.int v4_1), some (.int v5), some (.int v6), none] [] (k_1 v6)) : ∀ (n_1 : Nat) (v6_1 : Int32) (v7 : Int32), V (P_X1_fast l d n0 s0) (vEmb eI) σ 58 [some (.ref a0), some (.int x1), some (.int r_1), some (.int v3_1), some (.int v4_1), some (.int v5), some (.int v6_1), some (.int v7)] [] (f_X1_fast_58 σ a0 x1 r_1 v3_1 v4_1 v5 k_1 n_1 v6_1 v7) := by
  have hC : vPx (P_X1_fast l d n0 s0) cX1_fast 8 "NobodyBeenAft" (some .int) d := vMP_cx
  intro n_1
  induction n_1 with
  | zero =>
    intro v6_1 v7
    exact V_none
  | succ n_1 ih =>
    intro v6_1 v7
    refine V_eq (f_X1_fast_58.eq_2 ..) ?_
    refine V_iload hC dX1_fast_58 rfl ?_
    refine V_aload_n hC dX1_fast_60 rfl ?_
    refine g_X1_87 hC dX1_fast_61 ?_
    refine V_icmp_ge (tgt := 101) hC dX1_fast_64 (by decide) ?_ ?_
    · refine V_clr [7] (ls' := [some (.ref a0), some (.int x1), some (.int r_1), some (.int v3_1), some (.int v4_1), some (.int v5), some (.int v6_1), none]) rfl ?_
      exact hk_1 v6_1
    · refine V_iload hC dX1_fast_67 rfl ?_
      refine V_iload hC dX1_fast_69 rfl ?_
      refine V_iload hC dX1_fast_71 rfl ?_
      refine V_callS_PI (As := [.int v5, .int v7]) (rest := [.int v6_1]) (d' := 0) hC dX1_fast_73 2 (lw_S q974 q893 q85 q894) (by decide +kernel) rfl rfl (Nat.le_of_ble_eq_true rfl) (Nat.le_trans (by decide) hd) (by decide) vMP_l (fun _ h => c_X1_has (Nat.le_refl _) h) (fun r_5 => ?_)
      refine V_let (B := fun k_4 => ∀ (y : Int32), V (P_X1_fast l d n0 s0) (vEmb eI) σ 92 [some (.ref a0), some (.int x1), some (.int r_1), some (.int v3_1), some (.int v4_1), some (.int v5), none, some (.int v7)] [.int y, .int v6_1] (k_4 y)) ?_ ?_
      · intro y
        refine V_iadd hC dX1_fast_92 ?_
        refine V_istoreL (ls' := fun v6_2 => [some (.ref a0), some (.int x1), some (.int r_1), some (.int v3_1), some (.int v4_1), some (.int v5), some (.int v6_2), some (.int v7)]) hC dX1_fast_93 (by decide) rfl (fun _ => rfl) (fun v6_2 => ?_)
        refine V_iincL (v := v7 + 1) (ls' := fun v7_1 => [some (.ref a0), some (.int x1), some (.int r_1), some (.int v3_1), some (.int v4_1), some (.int v5), some (.int v6_2), some (.int v7_1)]) hC dX1_fast_95 rfl (by decide) rfl rfl (fun _ => rfl) (fun v7_1 => ?_)
        refine V_goto (tgt := 58) hC dX1_fast_98 (by decide) ?_
        exact ih v6_2 v7_1
      · intro k_4 hk_4
        refine V_if_eq (tgt := 83) hC dX1_fast_76 (by decide) ?_ ?_
        · refine V_aload_n hC dX1_fast_83 rfl ?_
          refine g_X1_45 hC dX1_fast_84 (fun b => ?_)
          refine V_iload hC dX1_fast_87 rfl ?_
          refine V_iald hC dX1_fast_89 ?_
          refine V_iload_n hC dX1_fast_90 rfl ?_
          refine V_imul hC dX1_fast_91 ?_
          refine V_clr [6] (ls' := [some (.ref a0), some (.int x1), some (.int r_1), some (.int v3_1), some (.int v4_1), some (.int v5), none, some (.int v7)]) rfl ?_
          exact hk_4 ((gi σ b (Int32.toNatClampNeg v7)) * x1)
        · refine V_iconst (v := 0) hC dX1_fast_79 rfl ?_
          refine V_goto (tgt := 92) hC dX1_fast_80 (by decide) ?_
          refine V_clr [6] (ls' := [some (.ref a0), some (.int x1), some (.int r_1), some (.int v3_1), some (.int v4_1), some (.int v5), none, some (.int v7)]) rfl ?_
          exact hk_4 0
theorem w_X1_fast_41 {l : Launch} {d n0 s0 : Nat} (hd : 1 ≤ d) (σ : vMem) (a0 : Nat) (x1 : Int32) (r_1 : Int32) (k : Int32 → Int32 → Option (Int32 × vMem)) (hk : ∀ (v3 : Int32), ∀ (v4 : Int32), V (P_X1_fast l d n0 s0) (vEmb eI) σ 142 [some (.ref a0), none, none, some (.int v3), some (.int v4), none, none, none] [] (k v3 v4)) : ∀ (n : Nat) (v3_1 : Int32) (v4_1 : Int32) (v5 : Int32), V (P_X1_fast l d n0 s0) (vEmb eI) σ 41 [some (.ref a0), some (.int x1), some (.int r_1), some (.int v3_1), some (.int v4_1), some (.int v5), none, none] [] (f_X1_fast_41 σ a0 x1 r_1 k n v3_1 v4_1 v5) := by
  have hC : vPx (P_X1_fast l d n0 s0) cX1_fast 8 "NobodyBeenAft" (some .int) d := vMP_cx
  intro n
  induction n with
  | zero =>
    intro v3_1 v4_1 v5
    exact V_none
  | succ n ih =>
    intro v3_1 v4_1 v5
    refine V_eq (f_X1_fast_41.eq_2 ..) ?_
    refine V_iload hC dX1_fast_41 rfl ?_
    refine V_iconst (v := 1) hC dX1_fast_43 rfl ?_
    refine V_aload_n hC dX1_fast_44 rfl ?_
    refine g_X1_87 hC dX1_fast_45 ?_
    refine V_ishl hC dX1_fast_48 ?_
    refine V_icmp_ge (tgt := 142) hC dX1_fast_49 (by decide) ?_ ?_
    · refine V_clr [1, 2, 5] (ls' := [some (.ref a0), none, none, some (.int v3_1), some (.int v4_1), none, none, none]) rfl ?_
      exact hk v3_1 v4_1
    · refine V_iconst (v := 0) hC dX1_fast_52 rfl ?_
      refine V_istore (ls' := [some (.ref a0), some (.int x1), some (.int r_1), some (.int v3_1), some (.int v4_1), some (.int v5), some (.int 0), none]) hC dX1_fast_53 (by decide) rfl rfl ?_
      refine V_iconst (v := 0) hC dX1_fast_55 rfl ?_
      refine V_istore (ls' := [some (.ref a0), some (.int x1), some (.int r_1), some (.int v3_1), some (.int v4_1), some (.int v5), some (.int 0), some (.int 0)]) hC dX1_fast_56 (by decide) rfl rfl ?_
      refine V_let (B := fun k_1 => ∀ (v6 : Int32), V (P_X1_fast l d n0 s0) (vEmb eI) σ 101 [some (.ref a0), some (.int x1), some (.int r_1), some (.int v3_1), some (.int v4_1), some (.int v5), some (.int v6), none] [] (k_1 v6)) ?_ ?_
      · intro v6
        refine V_iload hC dX1_fast_101 rfl ?_
        refine V_iload_n hC dX1_fast_103 rfl ?_
        refine V_let (B := fun k_2 => ∀ (v3_2 : Int32), ∀ (v4_2 : Int32), V (P_X1_fast l d n0 s0) (vEmb eI) σ 136 [some (.ref a0), some (.int x1), some (.int r_1), some (.int v3_2), some (.int v4_2), some (.int v5), none, none] [] (k_2 v3_2 v4_2)) ?_ ?_
        · intro v3_2 v4_2
          refine V_iincL (v := v5 + 1) (ls' := fun v5_1 => [some (.ref a0), some (.int x1), some (.int r_1), some (.int v3_2), some (.int v4_2), some (.int v5_1), none, none]) hC dX1_fast_136 rfl (by decide) rfl rfl (fun _ => rfl) (fun v5_1 => ?_)
          refine V_goto (tgt := 41) hC dX1_fast_139 (by decide) ?_
          exact ih v3_2 v4_2 v5_1
        · intro k_2 hk_2
          refine V_icmp_gt (tgt := 136) hC dX1_fast_104 (by decide) ?_ ?_
          · refine V_clr [6] (ls' := [some (.ref a0), some (.int x1), some (.int r_1), some (.int v3_1), some (.int v4_1), some (.int v5), none, none]) rfl ?_
            exact hk_2 v3_1 v4_1
          · refine V_iload_n hC dX1_fast_107 rfl ?_
            refine V_iconst (v := (-1)) hC dX1_fast_108 rfl ?_
            refine V_let (B := fun k_3 => V (P_X1_fast l d n0 s0) (vEmb eI) σ 127 [some (.ref a0), some (.int x1), some (.int r_1), none, none, some (.int v5), some (.int v6), none] [] (k_3)) ?_ ?_
            · skip
              refine V_iload hC dX1_fast_127 rfl ?_
              refine V_istore_n (ls' := [some (.ref a0), some (.int x1), some (.int r_1), some (.int v5), none, some (.int v5), some (.int v6), none]) hC dX1_fast_129 (by decide) rfl rfl ?_
              refine V_iload_n hC dX1_fast_130 rfl ?_
              refine V_iload hC dX1_fast_131 rfl ?_
              refine V_isub hC dX1_fast_133 ?_
              refine V_istoreL (ls' := fun v4_3 => [some (.ref a0), some (.int x1), some (.int r_1), some (.int v5), some (.int v4_3), some (.int v5), some (.int v6), none]) hC dX1_fast_134 (by decide) rfl (fun _ => rfl) (fun v4_3 => ?_)
              refine V_clr [6] (ls' := [some (.ref a0), some (.int x1), some (.int r_1), some (.int v5), some (.int v4_3), some (.int v5), none, none]) rfl ?_
              exact hk_2 v5 v4_3
            · intro k_3 hk_3
              refine V_icmp_eq (tgt := 127) hC dX1_fast_109 (by decide) ?_ ?_
              · refine V_clr [3, 4] (ls' := [some (.ref a0), some (.int x1), some (.int r_1), none, none, some (.int v5), some (.int v6), none]) rfl ?_
                exact hk_3
              · refine V_iload hC dX1_fast_112 rfl ?_
                refine V_callS_PI (As := [.int v5]) (rest := []) (d' := 0) hC dX1_fast_114 1 (lw_S q718 q624 q103 q625) (by decide +kernel) rfl rfl (Nat.le_of_ble_eq_true rfl) (Nat.le_trans (by decide) hd) (by decide) vMP_l (fun _ h => c_J7_bitCount (Nat.le_refl _) h) (fun r_3 => ?_)
                refine V_iload_n hC dX1_fast_117 rfl ?_
                refine V_callS_PI (As := [.int v3_1]) (rest := [.int r_3]) (d' := 0) hC dX1_fast_118 1 (lw_S q718 q624 q103 q625) (by decide +kernel) rfl rfl (Nat.le_of_ble_eq_true rfl) (Nat.le_trans (by decide) hd) (by decide) vMP_l (fun _ h => c_J7_bitCount (Nat.le_refl _) h) (fun r_4 => ?_)
                refine V_icmp_lt (tgt := 127) hC dX1_fast_121 (by decide) ?_ ?_
                · refine V_clr [3, 4] (ls' := [some (.ref a0), some (.int x1), some (.int r_1), none, none, some (.int v5), some (.int v6), none]) rfl ?_
                  exact hk_3
                · refine V_goto (tgt := 136) hC dX1_fast_124 (by decide) ?_
                  refine V_clr [6] (ls' := [some (.ref a0), some (.int x1), some (.int r_1), some (.int v3_1), some (.int v4_1), some (.int v5), none, none]) rfl ?_
                  exact hk_2 v3_1 v4_1
      · intro k_1 hk_1
        exact (w_X1_fast_58 hd σ a0 x1 r_1 v3_1 v4_1 v5 k_1 hk_1) FU 0 0
theorem w_X1_fast {l : Launch} {d n0 s0 : Nat} (hd : 1 ≤ d) (σ : vMem) (a0 : Nat) (x1 : Int32) : V (P_X1_fast l d n0 s0) (vEmb eI) σ 0 [some (.ref a0), some (.int x1), none, none, none, none, none, none] [] (f_X1_fast σ a0 x1) := by
  have hC : vPx (P_X1_fast l d n0 s0) cX1_fast 8 "NobodyBeenAft" (some .int) d := vMP_cx
  refine V_eq (f_X1_fast.eq_1 ..) ?_
  refine V_iload_n hC dX1_fast_0 rfl ?_
  refine V_i2l hC dX1_fast_1 ?_
  refine V_lconst (v := 0) hC dX1_fast_2 rfl ?_
  refine V_ldc2 hC dX1_fast_3 q735 ?_
  refine V_callS_PI (As := [.long (Int32.toInt64 x1), .long 0, .long 99]) (rest := []) (d' := 0) hC dX1_fast_6 3 (lw_S q285 q286 q85 q287) (by decide +kernel) rfl rfl (Nat.le_of_ble_eq_true rfl) (Nat.le_trans (by decide) hd) (by decide) vMP_l (fun _ h => c_X1_in (Nat.le_refl _) h) (fun r => ?_)
  refine V_if_eq (tgt := 19) hC dX1_fast_9 (by decide) ?_ ?_
  · refine V_iconst (v := (-1)) hC dX1_fast_19 rfl ?_
    exact V_ireturn dX1_fast_20 rfl rfl
  · refine V_aload_n hC dX1_fast_12 rfl ?_
    refine g_X1_87 hC dX1_fast_13 ?_
    refine V_if_ne (tgt := 21) hC dX1_fast_16 (by decide) ?_ ?_
    · refine V_aload_n hC dX1_fast_21 rfl ?_
      refine V_iconst (v := 0) hC dX1_fast_22 rfl ?_
      refine V_aload_n hC dX1_fast_23 rfl ?_
      refine g_X1_87 hC dX1_fast_24 ?_
      refine V_iconst (v := 1) hC dX1_fast_27 rfl ?_
      refine V_isub hC dX1_fast_28 ?_
      refine V_cko (fun hm => V_callV_PI (c := 1) (As := [.int 0, .int ((gi σ a0 12) - 1)]) (rest := []) (d' := 0) hC dX1_fast_29 2 (lw_V q1076 q1078 qs23 q85 q1079) (by decide +kernel) (List.mem_singleton.mp hm) (by decide) (by decide) rfl rfl rfl (Nat.le_of_ble_eq_true rfl) (Nat.le_trans (by decide) hd) (by decide) vMP_l (fun _ h => c_X1_foodIn (Nat.le_refl _) h) (fun r_1 => ?_))
      refine V_istore_n (ls' := [some (.ref a0), some (.int x1), some (.int r_1), none, none, none, none, none]) hC dX1_fast_32 (by decide) rfl rfl ?_
      refine V_iconst (v := (-1)) hC dX1_fast_33 rfl ?_
      refine V_istore_n (ls' := [some (.ref a0), some (.int x1), some (.int r_1), some (.int (-1)), none, none, none, none]) hC dX1_fast_34 (by decide) rfl rfl ?_
      refine V_iconst (v := 0) hC dX1_fast_35 rfl ?_
      refine V_istore (ls' := [some (.ref a0), some (.int x1), some (.int r_1), some (.int (-1)), some (.int 0), none, none, none]) hC dX1_fast_36 (by decide) rfl rfl ?_
      refine V_iconst (v := 0) hC dX1_fast_38 rfl ?_
      refine V_istore (ls' := [some (.ref a0), some (.int x1), some (.int r_1), some (.int (-1)), some (.int 0), some (.int 0), none, none]) hC dX1_fast_39 (by decide) rfl rfl ?_
      refine V_let (B := fun k => ∀ (v3 : Int32), ∀ (v4 : Int32), V (P_X1_fast l d n0 s0) (vEmb eI) σ 142 [some (.ref a0), none, none, some (.int v3), some (.int v4), none, none, none] [] (k v3 v4)) ?_ ?_
      · intro v3 v4
        refine V_aload_n hC dX1_fast_142 rfl ?_
        refine V_iconst (v := 0) hC dX1_fast_143 rfl ?_
        refine p_X1_84 hC dX1_fast_144 (fun σ_1 => ?_)
        refine V_aload_n hC dX1_fast_147 rfl ?_
        refine V_iload_n hC dX1_fast_148 rfl ?_
        refine V_callS_PI (As := [.int v3]) (rest := [.ref a0]) (d' := 0) hC dX1_fast_149 1 (lw_S q718 q624 q103 q625) (by decide +kernel) rfl rfl (Nat.le_of_ble_eq_true rfl) (Nat.le_trans (by decide) hd) (by decide) vMP_l (fun _ h => c_J7_bitCount (Nat.le_refl _) h) (fun r_2 => ?_)
        refine V_i2l hC dX1_fast_152 ?_
        refine V_cko (fun hm => V_callV_V (c := 1) (As := [.long (Int32.toInt64 r_2)]) (rest := []) (d' := 0) hC dX1_fast_153 1 (lw_V q768 q770 qs17 q85 q771) (by decide +kernel) (List.mem_singleton.mp hm) (by decide) (by decide) rfl rfl rfl (Nat.le_of_ble_eq_true rfl) (Nat.le_trans (by decide) hd) (by decide) vMP_l (fun _ h => c_X1_tell (Nat.le_refl _) h) (fun σ_2 => ?_))
        refine V_aload_n hC dX1_fast_156 rfl ?_
        refine V_iload hC dX1_fast_157 rfl ?_
        refine V_i2l hC dX1_fast_159 ?_
        refine V_cko (fun hm => V_callV_V (c := 1) (As := [.long (Int32.toInt64 v4)]) (rest := []) (d' := 0) hC dX1_fast_160 1 (lw_V q768 q770 qs17 q85 q771) (by decide +kernel) (List.mem_singleton.mp hm) (by decide) (by decide) rfl rfl rfl (Nat.le_of_ble_eq_true rfl) (Nat.le_trans (by decide) hd) (by decide) vMP_l (fun _ h => c_X1_tell (Nat.le_refl _) h) (fun σ_3 => ?_))
        refine V_iload_n hC dX1_fast_163 rfl ?_
        exact V_ireturn dX1_fast_164 rfl rfl
      · intro k hk
        exact (w_X1_fast_41 hd σ a0 x1 r_1 k hk) FU (-1) 0 0
    · refine V_iconst (v := (-1)) hC dX1_fast_19 rfl ?_
      exact V_ireturn dX1_fast_20 rfl rfl
theorem c_X1_fast {l : Launch} {d : Nat} (hd : 1 ≤ d) {σ : vMem} {a0 : Nat} {x1 : Int32} {r : Int32 × vMem} (h : f_X1_fast σ a0 x1 = some r) : vOk l yX1_fast cX1_fast 8 (some .int) d [.ref a0, .int x1] σ (.inl ((eI).1 r, (eI).2 r)) := V_method (em := eI) [some (.ref a0), some (.int x1), none, none, none, none, none, none] (by decide +kernel) rfl (Nat.le_of_ble_eq_true rfl) (w_X1_fast hd σ a0 x1) h
/-! NobodyBeenAft.seen(II)I -/
def f_X1_seen (σ : vMem) (a0 : Nat) (x1 : Int32) (x2 : Int32) : Option (Int32 × vMem) := bp (f_X1_in σ (Int32.toInt64 x1) 0 24) (fun r => if r = 0 then (some ((-1), σ)) else bp (f_X1_in σ (Int32.toInt64 x2) 0 8) (fun r_1 => if ¬ r_1 = 0 then (cko σ a0 [1] (bp (f_X1_has σ (gi σ a0 23) x1) (fun r_2 => if r_2 = 0 then (cko σ a0 [1] (if ¬ (gi σ a0 24) = 12 then (cko σ a0 [1] (dr (gr σ a0 22) (fun b => cka σ b 105 x1 (vl (si σ b (Int32.toNatClampNeg x1) x2) (fun σ_1 => cko σ_1 a0 [1] (cko σ_1 a0 [1] (vl (si σ_1 a0 23 ((gi σ_1 a0 23) ||| (1 <<< (x1 &&& 31)))) (fun σ_2 => cko σ_2 a0 [1] (cko σ_2 a0 [1] (vl (si σ_2 a0 24 ((gi σ_2 a0 24) + 1)) (fun σ_3 => cko σ_3 a0 [1] (some ((gi σ_3 a0 24), σ_3))))))))))))) else some ((-1), σ))) else cko σ a0 [1] (dr (gr σ a0 22) (fun b_1 => cka σ b_1 105 x1 (if ¬ (gi σ b_1 (Int32.toNatClampNeg x1)) = x2 then (some ((-2), σ)) else cko σ a0 [1] (some ((gi σ a0 24), σ)))))))) else some ((-1), σ)))
abbrev P_X1_seen (l : Launch) (d n0 s0 : Nat) : vX → Prop := vMP l yX1_seen cX1_seen 3 (some .int) d n0 s0
theorem w_X1_seen {l : Launch} {d n0 s0 : Nat} (hd : 1 ≤ d) (σ : vMem) (a0 : Nat) (x1 : Int32) (x2 : Int32) : V (P_X1_seen l d n0 s0) (vEmb eI) σ 0 [some (.ref a0), some (.int x1), some (.int x2)] [] (f_X1_seen σ a0 x1 x2) := by
  have hC : vPx (P_X1_seen l d n0 s0) cX1_seen 3 "NobodyBeenAft" (some .int) d := vMP_cx
  refine V_eq (f_X1_seen.eq_1 ..) ?_
  refine V_iload_n hC dX1_seen_0 rfl ?_
  refine V_i2l hC dX1_seen_1 ?_
  refine V_lconst (v := 0) hC dX1_seen_2 rfl ?_
  refine V_ldc2 hC dX1_seen_3 q1103 ?_
  refine V_callS_PI (As := [.long (Int32.toInt64 x1), .long 0, .long 24]) (rest := []) (d' := 0) hC dX1_seen_6 3 (lw_S q285 q286 q85 q287) (by decide +kernel) rfl rfl (Nat.le_of_ble_eq_true rfl) (Nat.le_trans (by decide) hd) (by decide) vMP_l (fun _ h => c_X1_in (Nat.le_refl _) h) (fun r => ?_)
  refine V_if_eq (tgt := 24) hC dX1_seen_9 (by decide) ?_ ?_
  · refine V_iconst (v := (-1)) hC dX1_seen_24 rfl ?_
    exact V_ireturn dX1_seen_25 rfl rfl
  · refine V_iload_n hC dX1_seen_12 rfl ?_
    refine V_i2l hC dX1_seen_13 ?_
    refine V_lconst (v := 0) hC dX1_seen_14 rfl ?_
    refine V_ldc2 hC dX1_seen_15 q1016 ?_
    refine V_callS_PI (As := [.long (Int32.toInt64 x2), .long 0, .long 8]) (rest := []) (d' := 0) hC dX1_seen_18 3 (lw_S q285 q286 q85 q287) (by decide +kernel) rfl rfl (Nat.le_of_ble_eq_true rfl) (Nat.le_trans (by decide) hd) (by decide) vMP_l (fun _ h => c_X1_in (Nat.le_refl _) h) (fun r_1 => ?_)
    refine V_if_ne (tgt := 26) hC dX1_seen_21 (by decide) ?_ ?_
    · refine V_aload_n hC dX1_seen_26 rfl ?_
      refine g_X1_420 hC dX1_seen_27 ?_
      refine V_iload_n hC dX1_seen_30 rfl ?_
      refine V_callS_PI (As := [.int (gi σ a0 23), .int x1]) (rest := []) (d' := 0) hC dX1_seen_31 2 (lw_S q974 q893 q85 q894) (by decide +kernel) rfl rfl (Nat.le_of_ble_eq_true rfl) (Nat.le_trans (by decide) hd) (by decide) vMP_l (fun _ h => c_X1_has (Nat.le_refl _) h) (fun r_2 => ?_)
      refine V_if_eq (tgt := 57) hC dX1_seen_34 (by decide) ?_ ?_
      · refine V_aload_n hC dX1_seen_57 rfl ?_
        refine g_X1_423 hC dX1_seen_58 ?_
        refine V_bipush (v := 12) hC dX1_seen_61 rfl ?_
        refine V_icmp_ne (tgt := 68) hC dX1_seen_63 (by decide) ?_ ?_
        · refine V_aload_n hC dX1_seen_68 rfl ?_
          refine g_X1_65 hC dX1_seen_69 (fun b => ?_)
          refine V_iload_n hC dX1_seen_72 rfl ?_
          refine V_iload_n hC dX1_seen_73 rfl ?_
          refine V_iast hC dX1_seen_74 (fun σ_1 => ?_)
          refine V_aload_n hC dX1_seen_75 rfl ?_
          refine V_dup hC dX1_seen_76 rfl ?_
          refine g_X1_420 hC dX1_seen_77 ?_
          refine V_iconst (v := 1) hC dX1_seen_80 rfl ?_
          refine V_iload_n hC dX1_seen_81 rfl ?_
          refine V_ishl hC dX1_seen_82 ?_
          refine V_ior hC dX1_seen_83 ?_
          refine p_X1_420 hC dX1_seen_84 (fun σ_2 => ?_)
          refine V_aload_n hC dX1_seen_87 rfl ?_
          refine V_dup hC dX1_seen_88 rfl ?_
          refine g_X1_423 hC dX1_seen_89 ?_
          refine V_iconst (v := 1) hC dX1_seen_92 rfl ?_
          refine V_iadd hC dX1_seen_93 ?_
          refine p_X1_423 hC dX1_seen_94 (fun σ_3 => ?_)
          refine V_aload_n hC dX1_seen_97 rfl ?_
          refine g_X1_423 hC dX1_seen_98 ?_
          exact V_ireturn dX1_seen_101 rfl rfl
        · refine V_iconst (v := (-1)) hC dX1_seen_66 rfl ?_
          exact V_ireturn dX1_seen_67 rfl rfl
      · refine V_aload_n hC dX1_seen_37 rfl ?_
        refine g_X1_65 hC dX1_seen_38 (fun b_1 => ?_)
        refine V_iload_n hC dX1_seen_41 rfl ?_
        refine V_iald hC dX1_seen_42 ?_
        refine V_iload_n hC dX1_seen_43 rfl ?_
        refine V_icmp_ne (tgt := 54) hC dX1_seen_44 (by decide) ?_ ?_
        · refine V_bipush (v := (-2)) hC dX1_seen_54 rfl ?_
          exact V_ireturn dX1_seen_56 rfl rfl
        · refine V_aload_n hC dX1_seen_47 rfl ?_
          refine g_X1_423 hC dX1_seen_48 ?_
          refine V_goto (tgt := 56) hC dX1_seen_51 (by decide) ?_
          exact V_ireturn dX1_seen_56 rfl rfl
    · refine V_iconst (v := (-1)) hC dX1_seen_24 rfl ?_
      exact V_ireturn dX1_seen_25 rfl rfl
theorem c_X1_seen {l : Launch} {d : Nat} (hd : 1 ≤ d) {σ : vMem} {a0 : Nat} {x1 : Int32} {x2 : Int32} {r : Int32 × vMem} (h : f_X1_seen σ a0 x1 x2 = some r) : vOk l yX1_seen cX1_seen 3 (some .int) d [.ref a0, .int x1, .int x2] σ (.inl ((eI).1 r, (eI).2 r)) := V_method (em := eI) [some (.ref a0), some (.int x1), some (.int x2)] (by decide +kernel) rfl (Nat.le_of_ble_eq_true rfl) (w_X1_seen hd σ a0 x1 x2) h
/-! NobodyBeenAft.forget()I -/
def f_X1_forget (σ : vMem) (a0 : Nat) : Option (Int32 × vMem) := cko σ a0 [1] (vl (gi σ a0 24) (fun v1 => cko σ a0 [1] (vl (si σ a0 23 0) (fun σ_1 => cko σ_1 a0 [1] (vl (si σ_1 a0 24 0) (fun σ_2 => some (v1, σ_2)))))))
abbrev P_X1_forget (l : Launch) (d n0 s0 : Nat) : vX → Prop := vMP l yX1_forget cX1_forget 2 (some .int) d n0 s0
theorem w_X1_forget {l : Launch} {d n0 s0 : Nat} (hd : 0 ≤ d) (σ : vMem) (a0 : Nat) : V (P_X1_forget l d n0 s0) (vEmb eI) σ 0 [some (.ref a0), none] [] (f_X1_forget σ a0) := by
  have hC : vPx (P_X1_forget l d n0 s0) cX1_forget 2 "NobodyBeenAft" (some .int) d := vMP_cx
  refine V_eq (f_X1_forget.eq_1 ..) ?_
  refine V_aload_n hC dX1_forget_0 rfl ?_
  refine g_X1_423 hC dX1_forget_1 ?_
  refine V_istore_nL (ls' := fun v1 => [some (.ref a0), some (.int v1)]) hC dX1_forget_4 (by decide) rfl (fun _ => rfl) (fun v1 => ?_)
  refine V_aload_n hC dX1_forget_5 rfl ?_
  refine V_iconst (v := 0) hC dX1_forget_6 rfl ?_
  refine p_X1_420 hC dX1_forget_7 (fun σ_1 => ?_)
  refine V_aload_n hC dX1_forget_10 rfl ?_
  refine V_iconst (v := 0) hC dX1_forget_11 rfl ?_
  refine p_X1_423 hC dX1_forget_12 (fun σ_2 => ?_)
  refine V_iload_n hC dX1_forget_15 rfl ?_
  exact V_ireturn dX1_forget_16 rfl rfl
theorem c_X1_forget {l : Launch} {d : Nat} (hd : 0 ≤ d) {σ : vMem} {a0 : Nat} {r : Int32 × vMem} (h : f_X1_forget σ a0 = some r) : vOk l yX1_forget cX1_forget 2 (some .int) d [.ref a0] σ (.inl ((eI).1 r, (eI).2 r)) := V_method (em := eI) [some (.ref a0), none] (by decide +kernel) rfl (Nat.le_of_ble_eq_true rfl) (w_X1_forget hd σ a0) h
/-! NobodyBeenAft.lastSeen()I -/
def f_X1_lastSeen (σ : vMem) (a0 : Nat) : Option (Int32) := cko σ a0 [1] (bp (f_J7_numberOfLeadingZeros σ (gi σ a0 23)) (fun r => some (31 - r)))
abbrev P_X1_lastSeen (l : Launch) (d n0 s0 : Nat) : vX → Prop := vMP l yX1_lastSeen cX1_lastSeen 1 (some .int) d n0 s0
theorem w_X1_lastSeen {l : Launch} {d n0 s0 : Nat} (hd : 1 ≤ d) (σ : vMem) (a0 : Nat) : V (P_X1_lastSeen l d n0 s0) (vEmb (ePI σ)) σ 0 [some (.ref a0)] [] (f_X1_lastSeen σ a0) := by
  have hC : vPx (P_X1_lastSeen l d n0 s0) cX1_lastSeen 1 "NobodyBeenAft" (some .int) d := vMP_cx
  refine V_eq (f_X1_lastSeen.eq_1 ..) ?_
  refine V_bipush (v := 31) hC dX1_lastSeen_0 rfl ?_
  refine V_aload_n hC dX1_lastSeen_2 rfl ?_
  refine g_X1_420 hC dX1_lastSeen_3 ?_
  refine V_callS_PI (As := [.int (gi σ a0 23)]) (rest := [.int 31]) (d' := 0) hC dX1_lastSeen_6 1 (lw_S q1120 q1121 q103 q1122) (by decide +kernel) rfl rfl (Nat.le_of_ble_eq_true rfl) (Nat.le_trans (by decide) hd) (by decide) vMP_l (fun _ h => c_J7_numberOfLeadingZeros (Nat.le_refl _) h) (fun r => ?_)
  refine V_isub hC dX1_lastSeen_9 ?_
  exact V_ireturn dX1_lastSeen_10 rfl rfl
theorem c_X1_lastSeen {l : Launch} {d : Nat} (hd : 1 ≤ d) {σ : vMem} {a0 : Nat} {r : Int32} (h : f_X1_lastSeen σ a0 = some r) : vOk l yX1_lastSeen cX1_lastSeen 1 (some .int) d [.ref a0] σ (.inl (((ePI σ)).1 r, ((ePI σ)).2 r)) := V_method (em := (ePI σ)) [some (.ref a0)] (by decide +kernel) rfl (Nat.le_of_ble_eq_true rfl) (w_X1_lastSeen hd σ a0) h
/-! NobodyBeenAft.canSee(II)Z -/
def f_X1_canSee (σ : vMem) (a0 : Nat) (x1 : Int32) (x2 : Int32) : Option (Int32) := cko σ a0 [1] (bp (f_X1_has σ (gi σ a0 23) x1) (fun r => vl (some 1) (fun k => if r = 0 then k else cko σ a0 [1] (dr (gr σ a0 22) (fun b => cka σ b 105 x1 (if ¬ (gi σ b (Int32.toNatClampNeg x1)) = x2 then (some 0) else k))))))
abbrev P_X1_canSee (l : Launch) (d n0 s0 : Nat) : vX → Prop := vMP l yX1_canSee cX1_canSee 3 (some .boolean) d n0 s0
theorem w_X1_canSee {l : Launch} {d n0 s0 : Nat} (hd : 1 ≤ d) (σ : vMem) (a0 : Nat) (x1 : Int32) (x2 : Int32) : V (P_X1_canSee l d n0 s0) (vEmb (ePI σ)) σ 0 [some (.ref a0), some (.int x1), some (.int x2)] [] (f_X1_canSee σ a0 x1 x2) := by
  have hC : vPx (P_X1_canSee l d n0 s0) cX1_canSee 3 "NobodyBeenAft" (some .boolean) d := vMP_cx
  refine V_eq (f_X1_canSee.eq_1 ..) ?_
  refine V_aload_n hC dX1_canSee_0 rfl ?_
  refine g_X1_420 hC dX1_canSee_1 ?_
  refine V_iload_n hC dX1_canSee_4 rfl ?_
  refine V_callS_PI (As := [.int (gi σ a0 23), .int x1]) (rest := []) (d' := 0) hC dX1_canSee_5 2 (lw_S q974 q893 q85 q894) (by decide +kernel) rfl rfl (Nat.le_of_ble_eq_true rfl) (Nat.le_trans (by decide) hd) (by decide) vMP_l (fun _ h => c_X1_has (Nat.le_refl _) h) (fun r => ?_)
  refine V_let (B := fun k => V (P_X1_canSee l d n0 s0) (vEmb (ePI σ)) σ 21 [none, none, none] [] (k)) ?_ ?_
  · skip
    refine V_iconst (v := 1) hC dX1_canSee_21 rfl ?_
    refine V_goto (tgt := 26) hC dX1_canSee_22 (by decide) ?_
    exact V_zreturn rfl dX1_canSee_26 rfl rfl
  · intro k hk
    refine V_if_eq (tgt := 21) hC dX1_canSee_8 (by decide) ?_ ?_
    · refine V_clr [0, 1, 2] (ls' := [none, none, none]) rfl ?_
      exact hk
    · refine V_aload_n hC dX1_canSee_11 rfl ?_
      refine g_X1_65 hC dX1_canSee_12 (fun b => ?_)
      refine V_iload_n hC dX1_canSee_15 rfl ?_
      refine V_iald hC dX1_canSee_16 ?_
      refine V_iload_n hC dX1_canSee_17 rfl ?_
      refine V_icmp_ne (tgt := 25) hC dX1_canSee_18 (by decide) ?_ ?_
      · refine V_iconst (v := 0) hC dX1_canSee_25 rfl ?_
        exact V_zreturn rfl dX1_canSee_26 rfl rfl
      · refine V_clr [0, 1, 2] (ls' := [none, none, none]) rfl ?_
        exact hk
theorem c_X1_canSee {l : Launch} {d : Nat} (hd : 1 ≤ d) {σ : vMem} {a0 : Nat} {x1 : Int32} {x2 : Int32} {r : Int32} (h : f_X1_canSee σ a0 x1 x2 = some r) : vOk l yX1_canSee cX1_canSee 3 (some .boolean) d [.ref a0, .int x1, .int x2] σ (.inl (((ePI σ)).1 r, ((ePI σ)).2 r)) := V_method (em := (ePI σ)) [some (.ref a0), some (.int x1), some (.int x2)] (by decide +kernel) rfl (Nat.le_of_ble_eq_true rfl) (w_X1_canSee hd σ a0 x1 x2) h
/-! NobodyBeenAft.findRows()V -/
def f_X1_findRows_180 (a0 : Nat) (r : Int32) (v2 : Int32) (v3 : Int32) (k_3 : vMem → Option (vMem)) : Nat → vMem → Int32 → Option (vMem)
  | 0, _, _ => none
  | n_2 + 1, σ_8, v4 => if 1 < v4 then (k_3 σ_8) else cko σ_8 a0 [1] (dr (gr σ_8 a0 26) (fun b_2 => cka σ_8 b_2 114 (v2 - 1) (dr (gr σ_8 b_2 (Int32.toNatClampNeg (v2 - 1))) (fun b_3 => cka σ_8 b_3 101 v3 (vl (fun (σ_9 : vMem) => vl (v4 + 1) (fun v4_1 => f_X1_findRows_180 a0 r v2 v3 k_3 n_2 σ_9 v4_1)) (fun k_4 => if (gi σ_8 b_3 (Int32.toNatClampNeg v3)) = 0 then (k_4 σ_8) else cko σ_8 a0 [1] (dr (gr σ_8 a0 25) (fun b_4 => cka σ_8 b_4 113 v2 (dr (gr σ_8 b_4 (Int32.toNatClampNeg v2)) (fun b_5 => bp (f_X1_clamp σ_8 (v3 + v4)) (fun r_1 => cka σ_8 b_5 106 r_1 (if (lg_cmp (gl σ_8 b_5 (Int32.toNatClampNeg r_1)) 0) ≤ 0 then (k_4 σ_8) else cko σ_8 a0 [1] (dr (gr σ_8 a0 26) (fun b_6 => cka σ_8 b_6 114 v2 (dr (gr σ_8 b_6 (Int32.toNatClampNeg v2)) (fun b_7 => bp (f_X1_clamp σ_8 (v3 + v4)) (fun r_2 => cka σ_8 b_7 101 r_2 (vl (si σ_8 b_7 (Int32.toNatClampNeg r_2) (vp_nar .boolean 1)) (fun σ_10 => k_4 σ_10)))))))))))))))))))
def f_X1_findRows_171 (a0 : Nat) (r : Int32) (v2 : Int32) (k_2 : vMem → Option (vMem)) : Nat → vMem → Int32 → Option (vMem)
  | 0, _, _ => none
  | n_1 + 1, σ_6, v3 => if 9 ≤ v3 then (k_2 σ_6) else vl (fun (σ_7 : vMem) => vl (v3 + 1) (fun v3_1 => f_X1_findRows_171 a0 r v2 k_2 n_1 σ_7 v3_1)) (fun k_3 => f_X1_findRows_180 a0 r v2 v3 k_3 FU σ_6 (-1))
def f_X1_findRows_154 (a0 : Nat) (r : Int32) : Nat → vMem → Int32 → Option (vMem)
  | 0, _, _ => none
  | n + 1, σ_3, v2 => if r < v2 then (some σ_3) else cko σ_3 a0 [1] (dr (gr σ_3 a0 26) (fun b => cka σ_3 b 114 v2 (dr (gr σ_3 b (Int32.toNatClampNeg v2)) (fun b_1 => bv (f_J11_fill_2 σ_3 b_1 0) (fun σ_4 => vl (fun (σ_5 : vMem) => vl (v2 + 1) (fun v2_1 => f_X1_findRows_154 a0 r n σ_5 v2_1)) (fun k_2 => f_X1_findRows_171 a0 r v2 k_2 FU σ_4 0))))))
def f_X1_findRows_109 (a0 : Nat) (r : Int32) (k_1 : vMem → Option (vMem)) : Nat → vMem → Int32 → Option (vMem)
  | 0, _, _ => none
  | n_3 + 1, σ_11, v2_2 => if 9 ≤ v2_2 then (k_1 σ_11) else cko σ_11 a0 [1] (dr (gr σ_11 a0 26) (fun b_8 => cka σ_11 b_8 114 0 (dr (gr σ_11 b_8 (Int32.toNatClampNeg 0)) (fun b_9 => vl (fun (y : Int32) => cka σ_11 b_9 101 v2_2 (vl (si σ_11 b_9 (Int32.toNatClampNeg v2_2) (vp_nar .boolean y)) (fun σ_12 => vl (v2_2 + 1) (fun v2_3 => f_X1_findRows_109 a0 r k_1 n_3 σ_12 v2_3)))) (fun k_5 => vl (k_5 0) (fun k_6 => if ¬ v2_2 = 4 then k_6 else cko σ_11 a0 [1] (dr (gr σ_11 a0 25) (fun b_10 => cka σ_11 b_10 113 0 (dr (gr σ_11 b_10 (Int32.toNatClampNeg 0)) (fun b_11 => cka σ_11 b_11 106 4 (if (lg_cmp (gl σ_11 b_11 (Int32.toNatClampNeg 4)) 0) ≤ 0 then k_6 else k_5 1)))))))))))
def f_X1_findRows_34 (a0 : Nat) (r : Int32) (v2_4 : Int32) (σ_15 : vMem) (v3_2 : Int32) (k_9 : Int64 → Option (vMem)) : Nat → Int64 → Int32 → Option (vMem)
  | 0, _, _ => none
  | n_6 + 1, v4_3, v6 => if 1 < v6 then (k_9 v4_3) else if r ≤ v2_4 then (k_9 v4_3) else cko σ_15 a0 [1] (dr (gr σ_15 a0 25) (fun b_14 => cka σ_15 b_14 113 (v2_4 + 1) (dr (gr σ_15 b_14 (Int32.toNatClampNeg (v2_4 + 1))) (fun b_15 => bp (f_X1_clamp σ_15 (v3_2 + v6)) (fun r_4 => cka σ_15 b_15 106 r_4 (vl (v4_3 + (gl σ_15 b_15 (Int32.toNatClampNeg r_4))) (fun v4_4 => vl (v6 + 1) (fun v6_1 => f_X1_findRows_34 a0 r v2_4 σ_15 v3_2 k_9 n_6 v4_4 v6_1))))))))
def f_X1_findRows_13 (a0 : Nat) (r : Int32) (v2_4 : Int32) (k_7 : vMem → Option (vMem)) : Nat → vMem → Int32 → Option (vMem)
  | 0, _, _ => none
  | n_5 + 1, σ_15, v3_2 => if 9 ≤ v3_2 then (k_7 σ_15) else vl (fun (y_1 : Int64) => vl (fun (v4_2 : Int64) => cko σ_15 a0 [1] (dr (gr σ_15 a0 25) (fun b_12 => cka σ_15 b_12 113 v2_4 (dr (gr σ_15 b_12 (Int32.toNatClampNeg v2_4)) (fun b_13 => cko σ_15 a0 [1] (bp (f_X1_canSee σ_15 a0 v2_4 v3_2) (fun r_3 => vl (fun (y_2 : Int64) => cka σ_15 b_13 106 v3_2 (vl (sl σ_15 b_13 (Int32.toNatClampNeg v3_2) y_2) (fun σ_16 => vl (v3_2 + 1) (fun v3_3 => f_X1_findRows_13 a0 r v2_4 k_7 n_5 σ_16 v3_3)))) (fun k_10 => if r_3 = 0 then (k_10 0) else k_10 v4_2)))))))) (fun k_9 => f_X1_findRows_34 a0 r v2_4 σ_15 v3_2 k_9 FU y_1 (-1))) (fun k_8 => if ¬ v2_4 = r then (k_8 0) else k_8 1)
def f_X1_findRows_7 (a0 : Nat) (r : Int32) (k : vMem → Option (vMem)) : Nat → vMem → Int32 → Option (vMem)
  | 0, _, _ => none
  | n_4 + 1, σ_13, v2_4 => if v2_4 < 0 then (k σ_13) else vl (fun (σ_14 : vMem) => vl (v2_4 + (-1)) (fun v2_5 => f_X1_findRows_7 a0 r k n_4 σ_14 v2_5)) (fun k_7 => f_X1_findRows_13 a0 r v2_4 k_7 FU σ_13 0)
def f_X1_findRows (σ : vMem) (a0 : Nat) : Option (vMem) := cko σ a0 [1] (bp (f_X1_lastSeen σ a0) (fun r => vl (fun (σ_1 : vMem) => vl (fun (σ_2 : vMem) => f_X1_findRows_154 a0 r FU σ_2 1) (fun k_1 => f_X1_findRows_109 a0 r k_1 FU σ_1 0)) (fun k => f_X1_findRows_7 a0 r k FU σ r)))
abbrev P_X1_findRows (l : Launch) (d n0 s0 : Nat) : vX → Prop := vMP l yX1_findRows cX1_findRows 7 none d n0 s0
theorem w_X1_findRows_180 {l : Launch} {d n0 s0 : Nat} (hd : 2 ≤ d) (a0 : Nat) (r : Int32) (v2 : Int32) (v3 : Int32) (k_3 : vMem → Option (vMem)) (hk_3 : ∀ (σ_7 : vMem), V (P_X1_findRows l d n0 s0) (vEmb eV) σ_7 239 [some (.ref a0), some (.int r), some (.int v2), some (.int v3), none, none, none] [] (k_3 σ_7)) : ∀ (n_2 : Nat) (σ_8 : vMem) (v4 : Int32), V (P_X1_findRows l d n0 s0) (vEmb eV) σ_8 180 [some (.ref a0), some (.int r), some (.int v2), some (.int v3), some (.int v4), none, none] [] (f_X1_findRows_180 a0 r v2 v3 k_3 n_2 σ_8 v4) := by
  have hC : vPx (P_X1_findRows l d n0 s0) cX1_findRows 7 "NobodyBeenAft" none d := vMP_cx
  intro n_2
  induction n_2 with
  | zero =>
    intro σ_8 v4
    exact V_none
  | succ n_2 ih =>
    intro σ_8 v4
    refine V_eq (f_X1_findRows_180.eq_2 ..) ?_
    refine V_iload hC dX1_findRows_180 rfl ?_
    refine V_iconst (v := 1) hC dX1_findRows_182 rfl ?_
    refine V_icmp_gt (tgt := 239) hC dX1_findRows_183 (by decide) ?_ ?_
    · refine V_clr [4] (ls' := [some (.ref a0), some (.int r), some (.int v2), some (.int v3), none, none, none]) rfl ?_
      exact hk_3 σ_8
    · refine V_aload_n hC dX1_findRows_186 rfl ?_
      refine g_X1_75 hC dX1_findRows_187 (fun b_2 => ?_)
      refine V_iload_n hC dX1_findRows_190 rfl ?_
      refine V_iconst (v := 1) hC dX1_findRows_191 rfl ?_
      refine V_isub hC dX1_findRows_192 ?_
      refine V_aald (k := 114) (t0 := 10) hC dX1_findRows_193 (by decide) (fun _ => rfl) rfl (V_dr fun b_3 => ?_)
      refine V_iload_n hC dX1_findRows_194 rfl ?_
      refine V_zald hC dX1_findRows_195 ?_
      refine V_let (B := fun k_4 => ∀ (σ_9 : vMem), V (P_X1_findRows l d n0 s0) (vEmb eV) σ_9 233 [some (.ref a0), some (.int r), some (.int v2), some (.int v3), some (.int v4), none, none] [] (k_4 σ_9)) ?_ ?_
      · intro σ_9
        refine V_iincL (v := v4 + 1) (ls' := fun v4_1 => [some (.ref a0), some (.int r), some (.int v2), some (.int v3), some (.int v4_1), none, none]) hC dX1_findRows_233 rfl (by decide) rfl rfl (fun _ => rfl) (fun v4_1 => ?_)
        refine V_goto (tgt := 180) hC dX1_findRows_236 (by decide) ?_
        exact ih σ_9 v4_1
      · intro k_4 hk_4
        refine V_if_eq (tgt := 233) hC dX1_findRows_196 (by decide) ?_ ?_
        · exact hk_4 σ_8
        · refine V_aload_n hC dX1_findRows_199 rfl ?_
          refine g_X1_70 hC dX1_findRows_200 (fun b_4 => ?_)
          refine V_iload_n hC dX1_findRows_203 rfl ?_
          refine V_aald (k := 113) (t0 := 9) hC dX1_findRows_204 (by decide) (fun _ => rfl) rfl (V_dr fun b_5 => ?_)
          refine V_iload_n hC dX1_findRows_205 rfl ?_
          refine V_iload hC dX1_findRows_206 rfl ?_
          refine V_iadd hC dX1_findRows_208 ?_
          refine V_callS_PI (As := [.int (v3 + v4)]) (rest := [.ref b_5]) (d' := 0) hC dX1_findRows_209 1 (lw_S q1124 q762 q85 q763) (by decide +kernel) rfl rfl (Nat.le_of_ble_eq_true rfl) (Nat.le_trans (by decide) hd) (by decide) vMP_l (fun _ h => c_X1_clamp (Nat.le_refl _) h) (fun r_1 => ?_)
          refine V_lald hC dX1_findRows_212 ?_
          refine V_lconst (v := 0) hC dX1_findRows_213 rfl ?_
          refine V_lcmp hC dX1_findRows_214 ?_
          refine V_if_le (tgt := 233) hC dX1_findRows_215 (by decide) ?_ ?_
          · exact hk_4 σ_8
          · refine V_aload_n hC dX1_findRows_218 rfl ?_
            refine g_X1_75 hC dX1_findRows_219 (fun b_6 => ?_)
            refine V_iload_n hC dX1_findRows_222 rfl ?_
            refine V_aald (k := 114) (t0 := 10) hC dX1_findRows_223 (by decide) (fun _ => rfl) rfl (V_dr fun b_7 => ?_)
            refine V_iload_n hC dX1_findRows_224 rfl ?_
            refine V_iload hC dX1_findRows_225 rfl ?_
            refine V_iadd hC dX1_findRows_227 ?_
            refine V_callS_PI (As := [.int (v3 + v4)]) (rest := [.ref b_7]) (d' := 0) hC dX1_findRows_228 1 (lw_S q1124 q762 q85 q763) (by decide +kernel) rfl rfl (Nat.le_of_ble_eq_true rfl) (Nat.le_trans (by decide) hd) (by decide) vMP_l (fun _ h => c_X1_clamp (Nat.le_refl _) h) (fun r_2 => ?_)
            refine V_iconst (v := 1) hC dX1_findRows_231 rfl ?_
            refine V_zast hC dX1_findRows_232 (fun σ_10 => ?_)
            exact hk_4 σ_10
theorem w_X1_findRows_171 {l : Launch} {d n0 s0 : Nat} (hd : 2 ≤ d) (a0 : Nat) (r : Int32) (v2 : Int32) (k_2 : vMem → Option (vMem)) (hk_2 : ∀ (σ_5 : vMem), V (P_X1_findRows l d n0 s0) (vEmb eV) σ_5 245 [some (.ref a0), some (.int r), some (.int v2), none, none, none, none] [] (k_2 σ_5)) : ∀ (n_1 : Nat) (σ_6 : vMem) (v3 : Int32), V (P_X1_findRows l d n0 s0) (vEmb eV) σ_6 171 [some (.ref a0), some (.int r), some (.int v2), some (.int v3), none, none, none] [] (f_X1_findRows_171 a0 r v2 k_2 n_1 σ_6 v3) := by
  have hC : vPx (P_X1_findRows l d n0 s0) cX1_findRows 7 "NobodyBeenAft" none d := vMP_cx
  intro n_1
  induction n_1 with
  | zero =>
    intro σ_6 v3
    exact V_none
  | succ n_1 ih =>
    intro σ_6 v3
    refine V_eq (f_X1_findRows_171.eq_2 ..) ?_
    refine V_iload_n hC dX1_findRows_171 rfl ?_
    refine V_bipush (v := 9) hC dX1_findRows_172 rfl ?_
    refine V_icmp_ge (tgt := 245) hC dX1_findRows_174 (by decide) ?_ ?_
    · refine V_clr [3] (ls' := [some (.ref a0), some (.int r), some (.int v2), none, none, none, none]) rfl ?_
      exact hk_2 σ_6
    · refine V_iconst (v := (-1)) hC dX1_findRows_177 rfl ?_
      refine V_istore (ls' := [some (.ref a0), some (.int r), some (.int v2), some (.int v3), some (.int (-1)), none, none]) hC dX1_findRows_178 (by decide) rfl rfl ?_
      refine V_let (B := fun k_3 => ∀ (σ_7 : vMem), V (P_X1_findRows l d n0 s0) (vEmb eV) σ_7 239 [some (.ref a0), some (.int r), some (.int v2), some (.int v3), none, none, none] [] (k_3 σ_7)) ?_ ?_
      · intro σ_7
        refine V_iincL (v := v3 + 1) (ls' := fun v3_1 => [some (.ref a0), some (.int r), some (.int v2), some (.int v3_1), none, none, none]) hC dX1_findRows_239 rfl (by decide) rfl rfl (fun _ => rfl) (fun v3_1 => ?_)
        refine V_goto (tgt := 171) hC dX1_findRows_242 (by decide) ?_
        exact ih σ_7 v3_1
      · intro k_3 hk_3
        exact (w_X1_findRows_180 hd a0 r v2 v3 k_3 hk_3) FU σ_6 (-1)
theorem w_X1_findRows_154 {l : Launch} {d n0 s0 : Nat} (hd : 2 ≤ d) (a0 : Nat) (r : Int32)  : ∀ (n : Nat) (σ_3 : vMem) (v2 : Int32), V (P_X1_findRows l d n0 s0) (vEmb eV) σ_3 154 [some (.ref a0), some (.int r), some (.int v2), none, none, none, none] [] (f_X1_findRows_154 a0 r n σ_3 v2) := by
  have hC : vPx (P_X1_findRows l d n0 s0) cX1_findRows 7 "NobodyBeenAft" none d := vMP_cx
  intro n
  induction n with
  | zero =>
    intro σ_3 v2
    exact V_none
  | succ n ih =>
    intro σ_3 v2
    refine V_eq (f_X1_findRows_154.eq_2 ..) ?_
    refine V_iload_n hC dX1_findRows_154 rfl ?_
    refine V_iload_n hC dX1_findRows_155 rfl ?_
    refine V_icmp_gt (tgt := 251) hC dX1_findRows_156 (by decide) ?_ ?_
    · exact V_return dX1_findRows_251 rfl rfl
    · refine V_aload_n hC dX1_findRows_159 rfl ?_
      refine g_X1_75 hC dX1_findRows_160 (fun b => ?_)
      refine V_iload_n hC dX1_findRows_163 rfl ?_
      refine V_aald (k := 114) (t0 := 10) hC dX1_findRows_164 (by decide) (fun _ => rfl) rfl (V_dr fun b_1 => ?_)
      refine V_iconst (v := 0) hC dX1_findRows_165 rfl ?_
      refine V_callS_V (As := [.ref b_1, .int 0]) (rest := []) (d' := 0) hC dX1_findRows_166 2 (lw_S q1129 q1130 q110 q1131) (by decide +kernel) rfl rfl (Nat.le_of_ble_eq_true rfl) (Nat.le_trans (by decide) hd) (by decide) vMP_l (fun _ h => c_J11_fill_2 (Nat.le_refl _) h) (fun σ_4 => ?_)
      refine V_iconst (v := 0) hC dX1_findRows_169 rfl ?_
      refine V_istore_n (ls' := [some (.ref a0), some (.int r), some (.int v2), some (.int 0), none, none, none]) hC dX1_findRows_170 (by decide) rfl rfl ?_
      refine V_let (B := fun k_2 => ∀ (σ_5 : vMem), V (P_X1_findRows l d n0 s0) (vEmb eV) σ_5 245 [some (.ref a0), some (.int r), some (.int v2), none, none, none, none] [] (k_2 σ_5)) ?_ ?_
      · intro σ_5
        refine V_iincL (v := v2 + 1) (ls' := fun v2_1 => [some (.ref a0), some (.int r), some (.int v2_1), none, none, none, none]) hC dX1_findRows_245 rfl (by decide) rfl rfl (fun _ => rfl) (fun v2_1 => ?_)
        refine V_goto (tgt := 154) hC dX1_findRows_248 (by decide) ?_
        exact ih σ_5 v2_1
      · intro k_2 hk_2
        exact (w_X1_findRows_171 hd a0 r v2 k_2 hk_2) FU σ_4 0
theorem w_X1_findRows_109 {l : Launch} {d n0 s0 : Nat} (hd : 2 ≤ d) (a0 : Nat) (r : Int32) (k_1 : vMem → Option (vMem)) (hk_1 : ∀ (σ_2 : vMem), V (P_X1_findRows l d n0 s0) (vEmb eV) σ_2 152 [some (.ref a0), some (.int r), none, none, none, none, none] [] (k_1 σ_2)) : ∀ (n_3 : Nat) (σ_11 : vMem) (v2_2 : Int32), V (P_X1_findRows l d n0 s0) (vEmb eV) σ_11 109 [some (.ref a0), some (.int r), some (.int v2_2), none, none, none, none] [] (f_X1_findRows_109 a0 r k_1 n_3 σ_11 v2_2) := by
  have hC : vPx (P_X1_findRows l d n0 s0) cX1_findRows 7 "NobodyBeenAft" none d := vMP_cx
  intro n_3
  induction n_3 with
  | zero =>
    intro σ_11 v2_2
    exact V_none
  | succ n_3 ih =>
    intro σ_11 v2_2
    refine V_eq (f_X1_findRows_109.eq_2 ..) ?_
    refine V_iload_n hC dX1_findRows_109 rfl ?_
    refine V_bipush (v := 9) hC dX1_findRows_110 rfl ?_
    refine V_icmp_ge (tgt := 152) hC dX1_findRows_112 (by decide) ?_ ?_
    · refine V_clr [2] (ls' := [some (.ref a0), some (.int r), none, none, none, none, none]) rfl ?_
      exact hk_1 σ_11
    · refine V_aload_n hC dX1_findRows_115 rfl ?_
      refine g_X1_75 hC dX1_findRows_116 (fun b_8 => ?_)
      refine V_iconst (v := 0) hC dX1_findRows_119 rfl ?_
      refine V_aald (k := 114) (t0 := 10) hC dX1_findRows_120 (by decide) (fun _ => rfl) rfl (V_dr fun b_9 => ?_)
      refine V_iload_n hC dX1_findRows_121 rfl ?_
      refine V_iload_n hC dX1_findRows_122 rfl ?_
      refine V_iconst (v := 4) hC dX1_findRows_123 rfl ?_
      refine V_let (B := fun k_5 => ∀ (y : Int32), V (P_X1_findRows l d n0 s0) (vEmb eV) σ_11 145 [some (.ref a0), some (.int r), some (.int v2_2), none, none, none, none] [.int y, .int v2_2, .ref b_9] (k_5 y)) ?_ ?_
      · intro y
        refine V_zast hC dX1_findRows_145 (fun σ_12 => ?_)
        refine V_iincL (v := v2_2 + 1) (ls' := fun v2_3 => [some (.ref a0), some (.int r), some (.int v2_3), none, none, none, none]) hC dX1_findRows_146 rfl (by decide) rfl rfl (fun _ => rfl) (fun v2_3 => ?_)
        refine V_goto (tgt := 109) hC dX1_findRows_149 (by decide) ?_
        exact ih σ_12 v2_3
      · intro k_5 hk_5
        refine V_let (B := fun k_6 => V (P_X1_findRows l d n0 s0) (vEmb eV) σ_11 144 [some (.ref a0), some (.int r), some (.int v2_2), none, none, none, none] [.int v2_2, .ref b_9] (k_6)) ?_ ?_
        · skip
          refine V_iconst (v := 0) hC dX1_findRows_144 rfl ?_
          exact hk_5 0
        · intro k_6 hk_6
          refine V_icmp_ne (tgt := 144) hC dX1_findRows_124 (by decide) ?_ ?_
          · exact hk_6
          · refine V_aload_n hC dX1_findRows_127 rfl ?_
            refine g_X1_70 hC dX1_findRows_128 (fun b_10 => ?_)
            refine V_iconst (v := 0) hC dX1_findRows_131 rfl ?_
            refine V_aald (k := 113) (t0 := 9) hC dX1_findRows_132 (by decide) (fun _ => rfl) rfl (V_dr fun b_11 => ?_)
            refine V_iconst (v := 4) hC dX1_findRows_133 rfl ?_
            refine V_lald hC dX1_findRows_134 ?_
            refine V_lconst (v := 0) hC dX1_findRows_135 rfl ?_
            refine V_lcmp hC dX1_findRows_136 ?_
            refine V_if_le (tgt := 144) hC dX1_findRows_137 (by decide) ?_ ?_
            · exact hk_6
            · refine V_iconst (v := 1) hC dX1_findRows_140 rfl ?_
              refine V_goto (tgt := 145) hC dX1_findRows_141 (by decide) ?_
              exact hk_5 1
theorem w_X1_findRows_34 {l : Launch} {d n0 s0 : Nat} (hd : 2 ≤ d) (a0 : Nat) (r : Int32) (v2_4 : Int32) (σ_15 : vMem) (v3_2 : Int32) (k_9 : Int64 → Option (vMem)) (hk_9 : ∀ (v4_2 : Int64), V (P_X1_findRows l d n0 s0) (vEmb eV) σ_15 72 [some (.ref a0), some (.int r), some (.int v2_4), some (.int v3_2), some (.long v4_2), none, none] [] (k_9 v4_2)) : ∀ (n_6 : Nat) (v4_3 : Int64) (v6 : Int32), V (P_X1_findRows l d n0 s0) (vEmb eV) σ_15 34 [some (.ref a0), some (.int r), some (.int v2_4), some (.int v3_2), some (.long v4_3), none, some (.int v6)] [] (f_X1_findRows_34 a0 r v2_4 σ_15 v3_2 k_9 n_6 v4_3 v6) := by
  have hC : vPx (P_X1_findRows l d n0 s0) cX1_findRows 7 "NobodyBeenAft" none d := vMP_cx
  intro n_6
  induction n_6 with
  | zero =>
    intro v4_3 v6
    exact V_none
  | succ n_6 ih =>
    intro v4_3 v6
    refine V_eq (f_X1_findRows_34.eq_2 ..) ?_
    refine V_iload hC dX1_findRows_34 rfl ?_
    refine V_iconst (v := 1) hC dX1_findRows_36 rfl ?_
    refine V_icmp_gt (tgt := 72) hC dX1_findRows_37 (by decide) ?_ ?_
    · refine V_clr [6] (ls' := [some (.ref a0), some (.int r), some (.int v2_4), some (.int v3_2), some (.long v4_3), none, none]) rfl ?_
      exact hk_9 v4_3
    · refine V_iload_n hC dX1_findRows_40 rfl ?_
      refine V_iload_n hC dX1_findRows_41 rfl ?_
      refine V_icmp_ge (tgt := 72) hC dX1_findRows_42 (by decide) ?_ ?_
      · refine V_clr [6] (ls' := [some (.ref a0), some (.int r), some (.int v2_4), some (.int v3_2), some (.long v4_3), none, none]) rfl ?_
        exact hk_9 v4_3
      · refine V_lload hC dX1_findRows_45 rfl ?_
        refine V_aload_n hC dX1_findRows_47 rfl ?_
        refine g_X1_70 hC dX1_findRows_48 (fun b_14 => ?_)
        refine V_iload_n hC dX1_findRows_51 rfl ?_
        refine V_iconst (v := 1) hC dX1_findRows_52 rfl ?_
        refine V_iadd hC dX1_findRows_53 ?_
        refine V_aald (k := 113) (t0 := 9) hC dX1_findRows_54 (by decide) (fun _ => rfl) rfl (V_dr fun b_15 => ?_)
        refine V_iload_n hC dX1_findRows_55 rfl ?_
        refine V_iload hC dX1_findRows_56 rfl ?_
        refine V_iadd hC dX1_findRows_58 ?_
        refine V_callS_PI (As := [.int (v3_2 + v6)]) (rest := [.ref b_15, .long v4_3]) (d' := 0) hC dX1_findRows_59 1 (lw_S q1124 q762 q85 q763) (by decide +kernel) rfl rfl (Nat.le_of_ble_eq_true rfl) (Nat.le_trans (by decide) hd) (by decide) vMP_l (fun _ h => c_X1_clamp (Nat.le_refl _) h) (fun r_4 => ?_)
        refine V_lald hC dX1_findRows_62 ?_
        refine V_ladd hC dX1_findRows_63 ?_
        refine V_lstoreL (ls' := fun v4_4 => [some (.ref a0), some (.int r), some (.int v2_4), some (.int v3_2), some (.long v4_4), none, some (.int v6)]) hC dX1_findRows_64 (by decide) rfl (fun _ => rfl) (fun v4_4 => ?_)
        refine V_iincL (v := v6 + 1) (ls' := fun v6_1 => [some (.ref a0), some (.int r), some (.int v2_4), some (.int v3_2), some (.long v4_4), none, some (.int v6_1)]) hC dX1_findRows_66 rfl (by decide) rfl rfl (fun _ => rfl) (fun v6_1 => ?_)
        refine V_goto (tgt := 34) hC dX1_findRows_69 (by decide) ?_
        exact ih v4_4 v6_1
theorem w_X1_findRows_13 {l : Launch} {d n0 s0 : Nat} (hd : 2 ≤ d) (a0 : Nat) (r : Int32) (v2_4 : Int32) (k_7 : vMem → Option (vMem)) (hk_7 : ∀ (σ_14 : vMem), V (P_X1_findRows l d n0 s0) (vEmb eV) σ_14 101 [some (.ref a0), some (.int r), some (.int v2_4), none, none, none, none] [] (k_7 σ_14)) : ∀ (n_5 : Nat) (σ_15 : vMem) (v3_2 : Int32), V (P_X1_findRows l d n0 s0) (vEmb eV) σ_15 13 [some (.ref a0), some (.int r), some (.int v2_4), some (.int v3_2), none, none, none] [] (f_X1_findRows_13 a0 r v2_4 k_7 n_5 σ_15 v3_2) := by
  have hC : vPx (P_X1_findRows l d n0 s0) cX1_findRows 7 "NobodyBeenAft" none d := vMP_cx
  intro n_5
  induction n_5 with
  | zero =>
    intro σ_15 v3_2
    exact V_none
  | succ n_5 ih =>
    intro σ_15 v3_2
    refine V_eq (f_X1_findRows_13.eq_2 ..) ?_
    refine V_iload_n hC dX1_findRows_13 rfl ?_
    refine V_bipush (v := 9) hC dX1_findRows_14 rfl ?_
    refine V_icmp_ge (tgt := 101) hC dX1_findRows_16 (by decide) ?_ ?_
    · refine V_clr [3] (ls' := [some (.ref a0), some (.int r), some (.int v2_4), none, none, none, none]) rfl ?_
      exact hk_7 σ_15
    · refine V_iload_n hC dX1_findRows_19 rfl ?_
      refine V_iload_n hC dX1_findRows_20 rfl ?_
      refine V_let (B := fun k_8 => ∀ (y_1 : Int64), V (P_X1_findRows l d n0 s0) (vEmb eV) σ_15 29 [some (.ref a0), some (.int r), some (.int v2_4), some (.int v3_2), none, none, none] [.long y_1] (k_8 y_1)) ?_ ?_
      · intro y_1
        refine V_lstore (ls' := [some (.ref a0), some (.int r), some (.int v2_4), some (.int v3_2), some (.long y_1), none, none]) hC dX1_findRows_29 (by decide) rfl rfl ?_
        refine V_iconst (v := (-1)) hC dX1_findRows_31 rfl ?_
        refine V_istore (ls' := [some (.ref a0), some (.int r), some (.int v2_4), some (.int v3_2), some (.long y_1), none, some (.int (-1))]) hC dX1_findRows_32 (by decide) rfl rfl ?_
        refine V_let (B := fun k_9 => ∀ (v4_2 : Int64), V (P_X1_findRows l d n0 s0) (vEmb eV) σ_15 72 [some (.ref a0), some (.int r), some (.int v2_4), some (.int v3_2), some (.long v4_2), none, none] [] (k_9 v4_2)) ?_ ?_
        · intro v4_2
          refine V_aload_n hC dX1_findRows_72 rfl ?_
          refine g_X1_70 hC dX1_findRows_73 (fun b_12 => ?_)
          refine V_iload_n hC dX1_findRows_76 rfl ?_
          refine V_aald (k := 113) (t0 := 9) hC dX1_findRows_77 (by decide) (fun _ => rfl) rfl (V_dr fun b_13 => ?_)
          refine V_iload_n hC dX1_findRows_78 rfl ?_
          refine V_aload_n hC dX1_findRows_79 rfl ?_
          refine V_iload_n hC dX1_findRows_80 rfl ?_
          refine V_iload_n hC dX1_findRows_81 rfl ?_
          refine V_cko (fun hm => V_callV_PI (c := 1) (As := [.int v2_4, .int v3_2]) (rest := [.int v3_2, .ref b_13]) (d' := 1) hC dX1_findRows_82 2 (lw_V q1125 q1127 qs28 q85 q1128) (by decide +kernel) (List.mem_singleton.mp hm) (by decide) (by decide) rfl rfl rfl (Nat.le_of_ble_eq_true rfl) (Nat.le_trans (by decide) hd) (by decide) vMP_l (fun _ h => c_X1_canSee (Nat.le_refl _) h) (fun r_3 => ?_))
          refine V_let (B := fun k_10 => ∀ (y_2 : Int64), V (P_X1_findRows l d n0 s0) (vEmb eV) σ_15 94 [some (.ref a0), some (.int r), some (.int v2_4), some (.int v3_2), none, none, none] [.long y_2, .int v3_2, .ref b_13] (k_10 y_2)) ?_ ?_
          · intro y_2
            refine V_last hC dX1_findRows_94 (fun σ_16 => ?_)
            refine V_iincL (v := v3_2 + 1) (ls' := fun v3_3 => [some (.ref a0), some (.int r), some (.int v2_4), some (.int v3_3), none, none, none]) hC dX1_findRows_95 rfl (by decide) rfl rfl (fun _ => rfl) (fun v3_3 => ?_)
            refine V_goto (tgt := 13) hC dX1_findRows_98 (by decide) ?_
            exact ih σ_16 v3_3
          · intro k_10 hk_10
            refine V_if_eq (tgt := 93) hC dX1_findRows_85 (by decide) ?_ ?_
            · refine V_lconst (v := 0) hC dX1_findRows_93 rfl ?_
              refine V_clr [4] (ls' := [some (.ref a0), some (.int r), some (.int v2_4), some (.int v3_2), none, none, none]) rfl ?_
              exact hk_10 0
            · refine V_lload hC dX1_findRows_88 rfl ?_
              refine V_goto (tgt := 94) hC dX1_findRows_90 (by decide) ?_
              refine V_clr [4] (ls' := [some (.ref a0), some (.int r), some (.int v2_4), some (.int v3_2), none, none, none]) rfl ?_
              exact hk_10 v4_2
        · intro k_9 hk_9
          exact (w_X1_findRows_34 hd a0 r v2_4 σ_15 v3_2 k_9 hk_9) FU y_1 (-1)
      · intro k_8 hk_8
        refine V_icmp_ne (tgt := 28) hC dX1_findRows_21 (by decide) ?_ ?_
        · refine V_lconst (v := 0) hC dX1_findRows_28 rfl ?_
          exact hk_8 0
        · refine V_lconst (v := 1) hC dX1_findRows_24 rfl ?_
          refine V_goto (tgt := 29) hC dX1_findRows_25 (by decide) ?_
          exact hk_8 1
theorem w_X1_findRows_7 {l : Launch} {d n0 s0 : Nat} (hd : 2 ≤ d) (a0 : Nat) (r : Int32) (k : vMem → Option (vMem)) (hk : ∀ (σ_1 : vMem), V (P_X1_findRows l d n0 s0) (vEmb eV) σ_1 107 [some (.ref a0), some (.int r), none, none, none, none, none] [] (k σ_1)) : ∀ (n_4 : Nat) (σ_13 : vMem) (v2_4 : Int32), V (P_X1_findRows l d n0 s0) (vEmb eV) σ_13 7 [some (.ref a0), some (.int r), some (.int v2_4), none, none, none, none] [] (f_X1_findRows_7 a0 r k n_4 σ_13 v2_4) := by
  have hC : vPx (P_X1_findRows l d n0 s0) cX1_findRows 7 "NobodyBeenAft" none d := vMP_cx
  intro n_4
  induction n_4 with
  | zero =>
    intro σ_13 v2_4
    exact V_none
  | succ n_4 ih =>
    intro σ_13 v2_4
    refine V_eq (f_X1_findRows_7.eq_2 ..) ?_
    refine V_iload_n hC dX1_findRows_7 rfl ?_
    refine V_if_lt (tgt := 107) hC dX1_findRows_8 (by decide) ?_ ?_
    · refine V_clr [2] (ls' := [some (.ref a0), some (.int r), none, none, none, none, none]) rfl ?_
      exact hk σ_13
    · refine V_iconst (v := 0) hC dX1_findRows_11 rfl ?_
      refine V_istore_n (ls' := [some (.ref a0), some (.int r), some (.int v2_4), some (.int 0), none, none, none]) hC dX1_findRows_12 (by decide) rfl rfl ?_
      refine V_let (B := fun k_7 => ∀ (σ_14 : vMem), V (P_X1_findRows l d n0 s0) (vEmb eV) σ_14 101 [some (.ref a0), some (.int r), some (.int v2_4), none, none, none, none] [] (k_7 σ_14)) ?_ ?_
      · intro σ_14
        refine V_iincL (v := v2_4 + (-1)) (ls' := fun v2_5 => [some (.ref a0), some (.int r), some (.int v2_5), none, none, none, none]) hC dX1_findRows_101 rfl (by decide) rfl rfl (fun _ => rfl) (fun v2_5 => ?_)
        refine V_goto (tgt := 7) hC dX1_findRows_104 (by decide) ?_
        exact ih σ_14 v2_5
      · intro k_7 hk_7
        exact (w_X1_findRows_13 hd a0 r v2_4 k_7 hk_7) FU σ_13 0
theorem w_X1_findRows {l : Launch} {d n0 s0 : Nat} (hd : 2 ≤ d) (σ : vMem) (a0 : Nat) : V (P_X1_findRows l d n0 s0) (vEmb eV) σ 0 [some (.ref a0), none, none, none, none, none, none] [] (f_X1_findRows σ a0) := by
  have hC : vPx (P_X1_findRows l d n0 s0) cX1_findRows 7 "NobodyBeenAft" none d := vMP_cx
  refine V_eq (f_X1_findRows.eq_1 ..) ?_
  refine V_aload_n hC dX1_findRows_0 rfl ?_
  refine V_cko (fun hm => V_callV_PI (c := 1) (As := []) (rest := []) (d' := 1) hC dX1_findRows_1 0 (lw_V q1116 q1118 qs27 q85 q1119) (by decide +kernel) (List.mem_singleton.mp hm) (by decide) (by decide) rfl rfl rfl (Nat.le_of_ble_eq_true rfl) (Nat.le_trans (by decide) hd) (by decide) vMP_l (fun _ h => c_X1_lastSeen (Nat.le_refl _) h) (fun r => ?_))
  refine V_istore_n (ls' := [some (.ref a0), some (.int r), none, none, none, none, none]) hC dX1_findRows_4 (by decide) rfl rfl ?_
  refine V_iload_n hC dX1_findRows_5 rfl ?_
  refine V_istore_n (ls' := [some (.ref a0), some (.int r), some (.int r), none, none, none, none]) hC dX1_findRows_6 (by decide) rfl rfl ?_
  refine V_let (B := fun k => ∀ (σ_1 : vMem), V (P_X1_findRows l d n0 s0) (vEmb eV) σ_1 107 [some (.ref a0), some (.int r), none, none, none, none, none] [] (k σ_1)) ?_ ?_
  · intro σ_1
    refine V_iconst (v := 0) hC dX1_findRows_107 rfl ?_
    refine V_istore_n (ls' := [some (.ref a0), some (.int r), some (.int 0), none, none, none, none]) hC dX1_findRows_108 (by decide) rfl rfl ?_
    refine V_let (B := fun k_1 => ∀ (σ_2 : vMem), V (P_X1_findRows l d n0 s0) (vEmb eV) σ_2 152 [some (.ref a0), some (.int r), none, none, none, none, none] [] (k_1 σ_2)) ?_ ?_
    · intro σ_2
      refine V_iconst (v := 1) hC dX1_findRows_152 rfl ?_
      refine V_istore_n (ls' := [some (.ref a0), some (.int r), some (.int 1), none, none, none, none]) hC dX1_findRows_153 (by decide) rfl rfl ?_
      exact (w_X1_findRows_154 hd a0 r) FU σ_2 1
    · intro k_1 hk_1
      exact (w_X1_findRows_109 hd a0 r k_1 hk_1) FU σ_1 0
  · intro k hk
    exact (w_X1_findRows_7 hd a0 r k hk) FU σ r
theorem c_X1_findRows {l : Launch} {d : Nat} (hd : 2 ≤ d) {σ : vMem} {a0 : Nat} {r : vMem} (h : f_X1_findRows σ a0 = some r) : vOk l yX1_findRows cX1_findRows 7 none d [.ref a0] σ (.inl ((eV).1 r, (eV).2 r)) := V_method (em := eV) [some (.ref a0), none, none, none, none, none, none] (by decide +kernel) rfl (Nat.le_of_ble_eq_true rfl) (w_X1_findRows hd σ a0) h
/-! NobodyBeenAft.ordered()I -/
def f_X1_ordered_45 (a0 : Nat) (σ_4 : vMem) (v1 : Int32) (v2 : Int32) (k_1 : Int32 → Option (Int32 × vMem)) : Nat → Int32 → Option (Int32 × vMem)
  | 0, _ => none
  | n_1 + 1, v3_1 => cko σ_4 a0 [1] (dr (gr σ_4 a0 25) (fun b_4 => cka σ_4 b_4 113 v2 (dr (gr σ_4 b_4 (Int32.toNatClampNeg v2)) (fun b_5 => bp (f_X1_clamp σ_4 (v1 + v3_1)) (fun r_2 => cka σ_4 b_5 106 r_2 (if ¬ (lg_cmp (gl σ_4 b_5 (Int32.toNatClampNeg r_2)) 0) = 0 then (k_1 v3_1) else vl (v3_1 + 1) (fun v3_2 => f_X1_ordered_45 a0 σ_4 v1 v2 k_1 n_1 v3_2)))))))
def f_X1_ordered_22 (a0 : Nat) (k : vMem → Option (Int32 × vMem)) : Nat → vMem → Int32 → Int32 → Option (Int32 × vMem)
  | 0, _, _, _ => none
  | n + 1, σ_4, v1, v2 => cko σ_4 a0 [1] (bp (f_X1_lastSeen σ_4 a0) (fun r => if r < v2 then (k σ_4) else cko σ_4 a0 [1] (dr (gr σ_4 a0 25) (fun b_2 => cka σ_4 b_2 113 0 (dr (gr σ_4 b_2 (Int32.toNatClampNeg 0)) (fun b_3 => cka σ_4 b_3 106 4 (if (lg_cmp (gl σ_4 b_3 (Int32.toNatClampNeg 4)) 0) ≤ 0 then (k σ_4) else vl (fun (v3 : Int32) => cko σ_4 a0 [1] (bv (f_X1_tell σ_4 a0 (Int32.toInt64 v3)) (fun σ_5 => bp (f_X1_clamp σ_5 (v1 + v3)) (fun r_1 => vl (v2 + 1) (fun v2_1 => f_X1_ordered_22 a0 k n σ_5 r_1 v2_1))))) (fun k_1 => f_X1_ordered_45 a0 σ_4 v1 v2 k_1 FU (-1)))))))))
def f_X1_ordered (σ : vMem) (a0 : Nat) : Option (Int32 × vMem) := cko σ a0 [1] (if ¬ (gi σ a0 24) = 0 then (cko σ a0 [1] (bv (f_X1_findRows σ a0) (fun σ_1 => cko σ_1 a0 [1] (vl (si σ_1 a0 18 0) (fun σ_2 => vl (fun (σ_3 : vMem) => cko σ_3 a0 [1] (dr (gr σ_3 a0 25) (fun b => cka σ_3 b 113 0 (dr (gr σ_3 b (Int32.toNatClampNeg 0)) (fun b_1 => cka σ_3 b_1 106 4 (some ((Int64.toInt32 (lmin 1000000 (gl σ_3 b_1 (Int32.toNatClampNeg 4)))), σ_3))))))) (fun k => f_X1_ordered_22 a0 k FU σ_2 4 1)))))) else some ((-1), σ))
abbrev P_X1_ordered (l : Launch) (d n0 s0 : Nat) : vX → Prop := vMP l yX1_ordered cX1_ordered 4 (some .int) d n0 s0
theorem w_X1_ordered_45 {l : Launch} {d n0 s0 : Nat} (hd : 3 ≤ d) (a0 : Nat) (σ_4 : vMem) (v1 : Int32) (v2 : Int32) (k_1 : Int32 → Option (Int32 × vMem)) (hk_1 : ∀ (v3 : Int32), V (P_X1_ordered l d n0 s0) (vEmb eI) σ_4 69 [some (.ref a0), some (.int v1), some (.int v2), some (.int v3)] [] (k_1 v3)) : ∀ (n_1 : Nat) (v3_1 : Int32), V (P_X1_ordered l d n0 s0) (vEmb eI) σ_4 45 [some (.ref a0), some (.int v1), some (.int v2), some (.int v3_1)] [] (f_X1_ordered_45 a0 σ_4 v1 v2 k_1 n_1 v3_1) := by
  have hC : vPx (P_X1_ordered l d n0 s0) cX1_ordered 4 "NobodyBeenAft" (some .int) d := vMP_cx
  intro n_1
  induction n_1 with
  | zero =>
    intro v3_1
    exact V_none
  | succ n_1 ih =>
    intro v3_1
    refine V_eq (f_X1_ordered_45.eq_2 ..) ?_
    refine V_aload_n hC dX1_ordered_45 rfl ?_
    refine g_X1_70 hC dX1_ordered_46 (fun b_4 => ?_)
    refine V_iload_n hC dX1_ordered_49 rfl ?_
    refine V_aald (k := 113) (t0 := 9) hC dX1_ordered_50 (by decide) (fun _ => rfl) rfl (V_dr fun b_5 => ?_)
    refine V_iload_n hC dX1_ordered_51 rfl ?_
    refine V_iload_n hC dX1_ordered_52 rfl ?_
    refine V_iadd hC dX1_ordered_53 ?_
    refine V_callS_PI (As := [.int (v1 + v3_1)]) (rest := [.ref b_5]) (d' := 0) hC dX1_ordered_54 1 (lw_S q1124 q762 q85 q763) (by decide +kernel) rfl rfl (Nat.le_of_ble_eq_true rfl) (Nat.le_trans (by decide) hd) (by decide) vMP_l (fun _ h => c_X1_clamp (Nat.le_refl _) h) (fun r_2 => ?_)
    refine V_lald hC dX1_ordered_57 ?_
    refine V_lconst (v := 0) hC dX1_ordered_58 rfl ?_
    refine V_lcmp hC dX1_ordered_59 ?_
    refine V_if_ne (tgt := 69) hC dX1_ordered_60 (by decide) ?_ ?_
    · exact hk_1 v3_1
    · refine V_iincL (v := v3_1 + 1) (ls' := fun v3_2 => [some (.ref a0), some (.int v1), some (.int v2), some (.int v3_2)]) hC dX1_ordered_63 rfl (by decide) rfl rfl (fun _ => rfl) (fun v3_2 => ?_)
      refine V_goto (tgt := 45) hC dX1_ordered_66 (by decide) ?_
      exact ih v3_2
theorem w_X1_ordered_22 {l : Launch} {d n0 s0 : Nat} (hd : 3 ≤ d) (a0 : Nat) (k : vMem → Option (Int32 × vMem)) (hk : ∀ (σ_3 : vMem), V (P_X1_ordered l d n0 s0) (vEmb eI) σ_3 88 [some (.ref a0), none, none, none] [] (k σ_3)) : ∀ (n : Nat) (σ_4 : vMem) (v1 : Int32) (v2 : Int32), V (P_X1_ordered l d n0 s0) (vEmb eI) σ_4 22 [some (.ref a0), some (.int v1), some (.int v2), none] [] (f_X1_ordered_22 a0 k n σ_4 v1 v2) := by
  have hC : vPx (P_X1_ordered l d n0 s0) cX1_ordered 4 "NobodyBeenAft" (some .int) d := vMP_cx
  intro n
  induction n with
  | zero =>
    intro σ_4 v1 v2
    exact V_none
  | succ n ih =>
    intro σ_4 v1 v2
    refine V_eq (f_X1_ordered_22.eq_2 ..) ?_
    refine V_iload_n hC dX1_ordered_22 rfl ?_
    refine V_aload_n hC dX1_ordered_23 rfl ?_
    refine V_cko (fun hm => V_callV_PI (c := 1) (As := []) (rest := [.int v2]) (d' := 1) hC dX1_ordered_24 0 (lw_V q1116 q1118 qs27 q85 q1119) (by decide +kernel) (List.mem_singleton.mp hm) (by decide) (by decide) rfl rfl rfl (Nat.le_of_ble_eq_true rfl) (Nat.le_trans (by decide) hd) (by decide) vMP_l (fun _ h => c_X1_lastSeen (Nat.le_refl _) h) (fun r => ?_))
    refine V_icmp_gt (tgt := 88) hC dX1_ordered_27 (by decide) ?_ ?_
    · refine V_clr [1, 2] (ls' := [some (.ref a0), none, none, none]) rfl ?_
      exact hk σ_4
    · refine V_aload_n hC dX1_ordered_30 rfl ?_
      refine g_X1_70 hC dX1_ordered_31 (fun b_2 => ?_)
      refine V_iconst (v := 0) hC dX1_ordered_34 rfl ?_
      refine V_aald (k := 113) (t0 := 9) hC dX1_ordered_35 (by decide) (fun _ => rfl) rfl (V_dr fun b_3 => ?_)
      refine V_iconst (v := 4) hC dX1_ordered_36 rfl ?_
      refine V_lald hC dX1_ordered_37 ?_
      refine V_lconst (v := 0) hC dX1_ordered_38 rfl ?_
      refine V_lcmp hC dX1_ordered_39 ?_
      refine V_if_le (tgt := 88) hC dX1_ordered_40 (by decide) ?_ ?_
      · refine V_clr [1, 2] (ls' := [some (.ref a0), none, none, none]) rfl ?_
        exact hk σ_4
      · refine V_iconst (v := (-1)) hC dX1_ordered_43 rfl ?_
        refine V_istore_n (ls' := [some (.ref a0), some (.int v1), some (.int v2), some (.int (-1))]) hC dX1_ordered_44 (by decide) rfl rfl ?_
        refine V_let (B := fun k_1 => ∀ (v3 : Int32), V (P_X1_ordered l d n0 s0) (vEmb eI) σ_4 69 [some (.ref a0), some (.int v1), some (.int v2), some (.int v3)] [] (k_1 v3)) ?_ ?_
        · intro v3
          refine V_aload_n hC dX1_ordered_69 rfl ?_
          refine V_iload_n hC dX1_ordered_70 rfl ?_
          refine V_i2l hC dX1_ordered_71 ?_
          refine V_cko (fun hm => V_callV_V (c := 1) (As := [.long (Int32.toInt64 v3)]) (rest := []) (d' := 0) hC dX1_ordered_72 1 (lw_V q768 q770 qs17 q85 q771) (by decide +kernel) (List.mem_singleton.mp hm) (by decide) (by decide) rfl rfl rfl (Nat.le_of_ble_eq_true rfl) (Nat.le_trans (by decide) hd) (by decide) vMP_l (fun _ h => c_X1_tell (Nat.le_refl _) h) (fun σ_5 => ?_))
          refine V_iload_n hC dX1_ordered_75 rfl ?_
          refine V_iload_n hC dX1_ordered_76 rfl ?_
          refine V_iadd hC dX1_ordered_77 ?_
          refine V_callS_PI (As := [.int (v1 + v3)]) (rest := []) (d' := 0) hC dX1_ordered_78 1 (lw_S q1124 q762 q85 q763) (by decide +kernel) rfl rfl (Nat.le_of_ble_eq_true rfl) (Nat.le_trans (by decide) hd) (by decide) vMP_l (fun _ h => c_X1_clamp (Nat.le_refl _) h) (fun r_1 => ?_)
          refine V_istore_n (ls' := [some (.ref a0), some (.int r_1), some (.int v2), some (.int v3)]) hC dX1_ordered_81 (by decide) rfl rfl ?_
          refine V_iincL (v := v2 + 1) (ls' := fun v2_1 => [some (.ref a0), some (.int r_1), some (.int v2_1), some (.int v3)]) hC dX1_ordered_82 rfl (by decide) rfl rfl (fun _ => rfl) (fun v2_1 => ?_)
          refine V_goto (tgt := 22) hC dX1_ordered_85 (by decide) ?_
          refine V_clr [3] (ls' := [some (.ref a0), some (.int r_1), some (.int v2_1), none]) rfl ?_
          exact ih σ_5 r_1 v2_1
        · intro k_1 hk_1
          exact (w_X1_ordered_45 hd a0 σ_4 v1 v2 k_1 hk_1) FU (-1)
theorem w_X1_ordered {l : Launch} {d n0 s0 : Nat} (hd : 3 ≤ d) (σ : vMem) (a0 : Nat) : V (P_X1_ordered l d n0 s0) (vEmb eI) σ 0 [some (.ref a0), none, none, none] [] (f_X1_ordered σ a0) := by
  have hC : vPx (P_X1_ordered l d n0 s0) cX1_ordered 4 "NobodyBeenAft" (some .int) d := vMP_cx
  refine V_eq (f_X1_ordered.eq_1 ..) ?_
  refine V_aload_n hC dX1_ordered_0 rfl ?_
  refine g_X1_423 hC dX1_ordered_1 ?_
  refine V_if_ne (tgt := 9) hC dX1_ordered_4 (by decide) ?_ ?_
  · refine V_aload_n hC dX1_ordered_9 rfl ?_
    refine V_cko (fun hm => V_callV_V (c := 1) (As := []) (rest := []) (d' := 2) hC dX1_ordered_10 0 (lw_V q1112 q1114 qs26 q85 q1115) (by decide +kernel) (List.mem_singleton.mp hm) (by decide) (by decide) rfl rfl rfl (Nat.le_of_ble_eq_true rfl) (Nat.le_trans (by decide) hd) (by decide) vMP_l (fun _ h => c_X1_findRows (Nat.le_refl _) h) (fun σ_1 => ?_))
    refine V_iconst (v := 4) hC dX1_ordered_13 rfl ?_
    refine V_istore_n (ls' := [some (.ref a0), some (.int 4), none, none]) hC dX1_ordered_14 (by decide) rfl rfl ?_
    refine V_aload_n hC dX1_ordered_15 rfl ?_
    refine V_iconst (v := 0) hC dX1_ordered_16 rfl ?_
    refine p_X1_84 hC dX1_ordered_17 (fun σ_2 => ?_)
    refine V_iconst (v := 1) hC dX1_ordered_20 rfl ?_
    refine V_istore_n (ls' := [some (.ref a0), some (.int 4), some (.int 1), none]) hC dX1_ordered_21 (by decide) rfl rfl ?_
    refine V_let (B := fun k => ∀ (σ_3 : vMem), V (P_X1_ordered l d n0 s0) (vEmb eI) σ_3 88 [some (.ref a0), none, none, none] [] (k σ_3)) ?_ ?_
    · intro σ_3
      refine V_ldc2 hC dX1_ordered_88 q1132 ?_
      refine V_aload_n hC dX1_ordered_91 rfl ?_
      refine g_X1_70 hC dX1_ordered_92 (fun b => ?_)
      refine V_iconst (v := 0) hC dX1_ordered_95 rfl ?_
      refine V_aald (k := 113) (t0 := 9) hC dX1_ordered_96 (by decide) (fun _ => rfl) rfl (V_dr fun b_1 => ?_)
      refine V_iconst (v := 4) hC dX1_ordered_97 rfl ?_
      refine V_lald hC dX1_ordered_98 ?_
      refine V_mminL hC dX1_ordered_99 q1133 q1134 q90 q1135 (Nat.le_of_ble_eq_true rfl) ?_
      refine V_l2i hC dX1_ordered_102 ?_
      exact V_ireturn dX1_ordered_103 rfl rfl
    · intro k hk
      exact (w_X1_ordered_22 hd a0 k hk) FU σ_2 4 1
  · refine V_iconst (v := (-1)) hC dX1_ordered_7 rfl ?_
    exact V_ireturn dX1_ordered_8 rfl rfl
theorem c_X1_ordered {l : Launch} {d : Nat} (hd : 3 ≤ d) {σ : vMem} {a0 : Nat} {r : Int32 × vMem} (h : f_X1_ordered σ a0 = some r) : vOk l yX1_ordered cX1_ordered 4 (some .int) d [.ref a0] σ (.inl ((eI).1 r, (eI).2 r)) := V_method (em := eI) [some (.ref a0), none, none, none] (by decide +kernel) rfl (Nat.le_of_ble_eq_true rfl) (w_X1_ordered hd σ a0) h
/-! NobodyBeenAft.lanesIn(I)I -/
def f_X1_lanesIn_4 (σ : vMem) (a0 : Nat) (x1 : Int32) : Nat → Int32 → Int32 → Option (Int32)
  | 0, _, _ => none
  | n + 1, v2, v3 => if 9 ≤ v3 then (some v2) else cko σ a0 [1] (dr (gr σ a0 26) (fun b => cka σ b 114 x1 (dr (gr σ b (Int32.toNatClampNeg x1)) (fun b_1 => cka σ b_1 101 v3 (vl (fun (y : Int32) => vl (v2 ||| y) (fun v2_1 => vl (v3 + 1) (fun v3_1 => f_X1_lanesIn_4 σ a0 x1 n v2_1 v3_1))) (fun k => if (gi σ b_1 (Int32.toNatClampNeg v3)) = 0 then (k 0) else k (1 <<< (v3 &&& 31))))))))
def f_X1_lanesIn (σ : vMem) (a0 : Nat) (x1 : Int32) : Option (Int32) := f_X1_lanesIn_4 σ a0 x1 FU 0 0
abbrev P_X1_lanesIn (l : Launch) (d n0 s0 : Nat) : vX → Prop := vMP l yX1_lanesIn cX1_lanesIn 4 (some .int) d n0 s0
theorem w_X1_lanesIn_4 {l : Launch} {d n0 s0 : Nat} (hd : 0 ≤ d) (σ : vMem) (a0 : Nat) (x1 : Int32)  : ∀ (n : Nat) (v2 : Int32) (v3 : Int32), V (P_X1_lanesIn l d n0 s0) (vEmb (ePI σ)) σ 4 [some (.ref a0), some (.int x1), some (.int v2), some (.int v3)] [] (f_X1_lanesIn_4 σ a0 x1 n v2 v3) := by
  have hC : vPx (P_X1_lanesIn l d n0 s0) cX1_lanesIn 4 "NobodyBeenAft" (some .int) d := vMP_cx
  intro n
  induction n with
  | zero =>
    intro v2 v3
    exact V_none
  | succ n ih =>
    intro v2 v3
    refine V_eq (f_X1_lanesIn_4.eq_2 ..) ?_
    refine V_iload_n hC dX1_lanesIn_4 rfl ?_
    refine V_bipush (v := 9) hC dX1_lanesIn_5 rfl ?_
    refine V_icmp_ge (tgt := 37) hC dX1_lanesIn_7 (by decide) ?_ ?_
    · refine V_iload_n hC dX1_lanesIn_37 rfl ?_
      exact V_ireturn dX1_lanesIn_38 rfl rfl
    · refine V_iload_n hC dX1_lanesIn_10 rfl ?_
      refine V_aload_n hC dX1_lanesIn_11 rfl ?_
      refine g_X1_75 hC dX1_lanesIn_12 (fun b => ?_)
      refine V_iload_n hC dX1_lanesIn_15 rfl ?_
      refine V_aald (k := 114) (t0 := 10) hC dX1_lanesIn_16 (by decide) (fun _ => rfl) rfl (V_dr fun b_1 => ?_)
      refine V_iload_n hC dX1_lanesIn_17 rfl ?_
      refine V_zald hC dX1_lanesIn_18 ?_
      refine V_let (B := fun k => ∀ (y : Int32), V (P_X1_lanesIn l d n0 s0) (vEmb (ePI σ)) σ 29 [some (.ref a0), some (.int x1), none, some (.int v3)] [.int y, .int v2] (k y)) ?_ ?_
      · intro y
        refine V_ior hC dX1_lanesIn_29 ?_
        refine V_istore_nL (ls' := fun v2_1 => [some (.ref a0), some (.int x1), some (.int v2_1), some (.int v3)]) hC dX1_lanesIn_30 (by decide) rfl (fun _ => rfl) (fun v2_1 => ?_)
        refine V_iincL (v := v3 + 1) (ls' := fun v3_1 => [some (.ref a0), some (.int x1), some (.int v2_1), some (.int v3_1)]) hC dX1_lanesIn_31 rfl (by decide) rfl rfl (fun _ => rfl) (fun v3_1 => ?_)
        refine V_goto (tgt := 4) hC dX1_lanesIn_34 (by decide) ?_
        exact ih v2_1 v3_1
      · intro k hk
        refine V_if_eq (tgt := 28) hC dX1_lanesIn_19 (by decide) ?_ ?_
        · refine V_iconst (v := 0) hC dX1_lanesIn_28 rfl ?_
          refine V_clr [2] (ls' := [some (.ref a0), some (.int x1), none, some (.int v3)]) rfl ?_
          exact hk 0
        · refine V_iconst (v := 1) hC dX1_lanesIn_22 rfl ?_
          refine V_iload_n hC dX1_lanesIn_23 rfl ?_
          refine V_ishl hC dX1_lanesIn_24 ?_
          refine V_goto (tgt := 29) hC dX1_lanesIn_25 (by decide) ?_
          refine V_clr [2] (ls' := [some (.ref a0), some (.int x1), none, some (.int v3)]) rfl ?_
          exact hk (1 <<< (v3 &&& 31))
theorem w_X1_lanesIn {l : Launch} {d n0 s0 : Nat} (hd : 0 ≤ d) (σ : vMem) (a0 : Nat) (x1 : Int32) : V (P_X1_lanesIn l d n0 s0) (vEmb (ePI σ)) σ 0 [some (.ref a0), some (.int x1), none, none] [] (f_X1_lanesIn σ a0 x1) := by
  have hC : vPx (P_X1_lanesIn l d n0 s0) cX1_lanesIn 4 "NobodyBeenAft" (some .int) d := vMP_cx
  refine V_eq (f_X1_lanesIn.eq_1 ..) ?_
  refine V_iconst (v := 0) hC dX1_lanesIn_0 rfl ?_
  refine V_istore_n (ls' := [some (.ref a0), some (.int x1), some (.int 0), none]) hC dX1_lanesIn_1 (by decide) rfl rfl ?_
  refine V_iconst (v := 0) hC dX1_lanesIn_2 rfl ?_
  refine V_istore_n (ls' := [some (.ref a0), some (.int x1), some (.int 0), some (.int 0)]) hC dX1_lanesIn_3 (by decide) rfl rfl ?_
  exact (w_X1_lanesIn_4 hd σ a0 x1) FU 0 0
theorem c_X1_lanesIn {l : Launch} {d : Nat} (hd : 0 ≤ d) {σ : vMem} {a0 : Nat} {x1 : Int32} {r : Int32} (h : f_X1_lanesIn σ a0 x1 = some r) : vOk l yX1_lanesIn cX1_lanesIn 4 (some .int) d [.ref a0, .int x1] σ (.inl (((ePI σ)).1 r, ((ePI σ)).2 r)) := V_method (em := (ePI σ)) [some (.ref a0), some (.int x1), none, none] (by decide +kernel) rfl (Nat.le_of_ble_eq_true rfl) (w_X1_lanesIn hd σ a0 x1) h
/-! NobodyBeenAft.unsure()I -/
def f_X1_unsure_34 (a0 : Nat) (σ_1 : vMem) (k : Int32 → Option (Int32 × vMem)) : Nat → Int32 → Int32 → Option (Int32 × vMem)
  | 0, _, _ => none
  | n + 1, v1_1, v2 => cko σ_1 a0 [1] (bp (f_X1_lastSeen σ_1 a0) (fun r_1 => if r_1 < v2 then (k v1_1) else cko σ_1 a0 [1] (bp (f_X1_lanesIn σ_1 a0 v2) (fun r_2 => bp (f_J7_bitCount σ_1 r_2) (fun r_3 => cko σ_1 a0 [1] (bp (f_X1_lanesIn σ_1 a0 v1_1) (fun r_4 => bp (f_J7_bitCount σ_1 r_4) (fun r_5 => vl (fun (v1_2 : Int32) => vl (v2 + 1) (fun v2_1 => f_X1_unsure_34 a0 σ_1 k n v1_2 v2_1)) (fun k_1 => if r_3 ≤ r_5 then (k_1 v1_1) else k_1 v2)))))))))
def f_X1_unsure (σ : vMem) (a0 : Nat) : Option (Int32 × vMem) := cko σ a0 [1] (if ¬ (gi σ a0 24) = 0 then (cko σ a0 [1] (bv (f_X1_findRows σ a0) (fun σ_1 => cko σ_1 a0 [1] (dr (gr σ_1 a0 25) (fun b => cka σ_1 b 113 0 (dr (gr σ_1 b (Int32.toNatClampNeg 0)) (fun b_1 => cka σ_1 b_1 106 4 (if ¬ (lg_cmp (gl σ_1 b_1 (Int32.toNatClampNeg 4)) 0) = 0 then (vl (fun (v1 : Int32) => cko σ_1 a0 [1] (vl (si σ_1 a0 18 0) (fun σ_2 => cko σ_2 a0 [1] (bp (f_X1_lanesIn σ_2 a0 v1) (fun r => cko σ_2 a0 [1] (bv (f_X1_tell σ_2 a0 (Int32.toInt64 r)) (fun σ_3 => some (v1, σ_3)))))))) (fun k => f_X1_unsure_34 a0 σ_1 k FU 0 1)) else some ((-2), σ_1))))))))) else some ((-2), σ))
abbrev P_X1_unsure (l : Launch) (d n0 s0 : Nat) : vX → Prop := vMP l yX1_unsure cX1_unsure 3 (some .int) d n0 s0
theorem w_X1_unsure_34 {l : Launch} {d n0 s0 : Nat} (hd : 3 ≤ d) (a0 : Nat) (σ_1 : vMem) (k : Int32 → Option (Int32 × vMem)) (hk : ∀ (v1 : Int32), V (P_X1_unsure l d n0 s0) (vEmb eI) σ_1 69 [some (.ref a0), some (.int v1), none] [] (k v1)) : ∀ (n : Nat) (v1_1 : Int32) (v2 : Int32), V (P_X1_unsure l d n0 s0) (vEmb eI) σ_1 34 [some (.ref a0), some (.int v1_1), some (.int v2)] [] (f_X1_unsure_34 a0 σ_1 k n v1_1 v2) := by
  have hC : vPx (P_X1_unsure l d n0 s0) cX1_unsure 3 "NobodyBeenAft" (some .int) d := vMP_cx
  intro n
  induction n with
  | zero =>
    intro v1_1 v2
    exact V_none
  | succ n ih =>
    intro v1_1 v2
    refine V_eq (f_X1_unsure_34.eq_2 ..) ?_
    refine V_iload_n hC dX1_unsure_34 rfl ?_
    refine V_aload_n hC dX1_unsure_35 rfl ?_
    refine V_cko (fun hm => V_callV_PI (c := 1) (As := []) (rest := [.int v2]) (d' := 1) hC dX1_unsure_36 0 (lw_V q1116 q1118 qs27 q85 q1119) (by decide +kernel) (List.mem_singleton.mp hm) (by decide) (by decide) rfl rfl rfl (Nat.le_of_ble_eq_true rfl) (Nat.le_trans (by decide) hd) (by decide) vMP_l (fun _ h => c_X1_lastSeen (Nat.le_refl _) h) (fun r_1 => ?_))
    refine V_icmp_gt (tgt := 69) hC dX1_unsure_39 (by decide) ?_ ?_
    · refine V_clr [2] (ls' := [some (.ref a0), some (.int v1_1), none]) rfl ?_
      exact hk v1_1
    · refine V_aload_n hC dX1_unsure_42 rfl ?_
      refine V_iload_n hC dX1_unsure_43 rfl ?_
      refine V_cko (fun hm => V_callV_PI (c := 1) (As := [.int v2]) (rest := []) (d' := 0) hC dX1_unsure_44 1 (lw_V q1140 q1142 qs29 q85 q1143) (by decide +kernel) (List.mem_singleton.mp hm) (by decide) (by decide) rfl rfl rfl (Nat.le_of_ble_eq_true rfl) (Nat.le_trans (by decide) hd) (by decide) vMP_l (fun _ h => c_X1_lanesIn (Nat.le_refl _) h) (fun r_2 => ?_))
      refine V_callS_PI (As := [.int r_2]) (rest := []) (d' := 0) hC dX1_unsure_47 1 (lw_S q718 q624 q103 q625) (by decide +kernel) rfl rfl (Nat.le_of_ble_eq_true rfl) (Nat.le_trans (by decide) hd) (by decide) vMP_l (fun _ h => c_J7_bitCount (Nat.le_refl _) h) (fun r_3 => ?_)
      refine V_aload_n hC dX1_unsure_50 rfl ?_
      refine V_iload_n hC dX1_unsure_51 rfl ?_
      refine V_cko (fun hm => V_callV_PI (c := 1) (As := [.int v1_1]) (rest := [.int r_3]) (d' := 0) hC dX1_unsure_52 1 (lw_V q1140 q1142 qs29 q85 q1143) (by decide +kernel) (List.mem_singleton.mp hm) (by decide) (by decide) rfl rfl rfl (Nat.le_of_ble_eq_true rfl) (Nat.le_trans (by decide) hd) (by decide) vMP_l (fun _ h => c_X1_lanesIn (Nat.le_refl _) h) (fun r_4 => ?_))
      refine V_callS_PI (As := [.int r_4]) (rest := [.int r_3]) (d' := 0) hC dX1_unsure_55 1 (lw_S q718 q624 q103 q625) (by decide +kernel) rfl rfl (Nat.le_of_ble_eq_true rfl) (Nat.le_trans (by decide) hd) (by decide) vMP_l (fun _ h => c_J7_bitCount (Nat.le_refl _) h) (fun r_5 => ?_)
      refine V_let (B := fun k_1 => ∀ (v1_2 : Int32), V (P_X1_unsure l d n0 s0) (vEmb eI) σ_1 63 [some (.ref a0), some (.int v1_2), some (.int v2)] [] (k_1 v1_2)) ?_ ?_
      · intro v1_2
        refine V_iincL (v := v2 + 1) (ls' := fun v2_1 => [some (.ref a0), some (.int v1_2), some (.int v2_1)]) hC dX1_unsure_63 rfl (by decide) rfl rfl (fun _ => rfl) (fun v2_1 => ?_)
        refine V_goto (tgt := 34) hC dX1_unsure_66 (by decide) ?_
        exact ih v1_2 v2_1
      · intro k_1 hk_1
        refine V_icmp_le (tgt := 63) hC dX1_unsure_58 (by decide) ?_ ?_
        · exact hk_1 v1_1
        · refine V_iload_n hC dX1_unsure_61 rfl ?_
          refine V_istore_n (ls' := [some (.ref a0), some (.int v2), some (.int v2)]) hC dX1_unsure_62 (by decide) rfl rfl ?_
          exact hk_1 v2
theorem w_X1_unsure {l : Launch} {d n0 s0 : Nat} (hd : 3 ≤ d) (σ : vMem) (a0 : Nat) : V (P_X1_unsure l d n0 s0) (vEmb eI) σ 0 [some (.ref a0), none, none] [] (f_X1_unsure σ a0) := by
  have hC : vPx (P_X1_unsure l d n0 s0) cX1_unsure 3 "NobodyBeenAft" (some .int) d := vMP_cx
  refine V_eq (f_X1_unsure.eq_1 ..) ?_
  refine V_aload_n hC dX1_unsure_0 rfl ?_
  refine g_X1_423 hC dX1_unsure_1 ?_
  refine V_if_ne (tgt := 10) hC dX1_unsure_4 (by decide) ?_ ?_
  · refine V_aload_n hC dX1_unsure_10 rfl ?_
    refine V_cko (fun hm => V_callV_V (c := 1) (As := []) (rest := []) (d' := 2) hC dX1_unsure_11 0 (lw_V q1112 q1114 qs26 q85 q1115) (by decide +kernel) (List.mem_singleton.mp hm) (by decide) (by decide) rfl rfl rfl (Nat.le_of_ble_eq_true rfl) (Nat.le_trans (by decide) hd) (by decide) vMP_l (fun _ h => c_X1_findRows (Nat.le_refl _) h) (fun σ_1 => ?_))
    refine V_aload_n hC dX1_unsure_14 rfl ?_
    refine g_X1_70 hC dX1_unsure_15 (fun b => ?_)
    refine V_iconst (v := 0) hC dX1_unsure_18 rfl ?_
    refine V_aald (k := 113) (t0 := 9) hC dX1_unsure_19 (by decide) (fun _ => rfl) rfl (V_dr fun b_1 => ?_)
    refine V_iconst (v := 4) hC dX1_unsure_20 rfl ?_
    refine V_lald hC dX1_unsure_21 ?_
    refine V_lconst (v := 0) hC dX1_unsure_22 rfl ?_
    refine V_lcmp hC dX1_unsure_23 ?_
    refine V_if_ne (tgt := 30) hC dX1_unsure_24 (by decide) ?_ ?_
    · refine V_iconst (v := 0) hC dX1_unsure_30 rfl ?_
      refine V_istore_n (ls' := [some (.ref a0), some (.int 0), none]) hC dX1_unsure_31 (by decide) rfl rfl ?_
      refine V_iconst (v := 1) hC dX1_unsure_32 rfl ?_
      refine V_istore_n (ls' := [some (.ref a0), some (.int 0), some (.int 1)]) hC dX1_unsure_33 (by decide) rfl rfl ?_
      refine V_let (B := fun k => ∀ (v1 : Int32), V (P_X1_unsure l d n0 s0) (vEmb eI) σ_1 69 [some (.ref a0), some (.int v1), none] [] (k v1)) ?_ ?_
      · intro v1
        refine V_aload_n hC dX1_unsure_69 rfl ?_
        refine V_iconst (v := 0) hC dX1_unsure_70 rfl ?_
        refine p_X1_84 hC dX1_unsure_71 (fun σ_2 => ?_)
        refine V_aload_n hC dX1_unsure_74 rfl ?_
        refine V_aload_n hC dX1_unsure_75 rfl ?_
        refine V_iload_n hC dX1_unsure_76 rfl ?_
        refine V_cko (fun hm => V_callV_PI (c := 1) (As := [.int v1]) (rest := [.ref a0]) (d' := 0) hC dX1_unsure_77 1 (lw_V q1140 q1142 qs29 q85 q1143) (by decide +kernel) (List.mem_singleton.mp hm) (by decide) (by decide) rfl rfl rfl (Nat.le_of_ble_eq_true rfl) (Nat.le_trans (by decide) hd) (by decide) vMP_l (fun _ h => c_X1_lanesIn (Nat.le_refl _) h) (fun r => ?_))
        refine V_i2l hC dX1_unsure_80 ?_
        refine V_cko (fun hm => V_callV_V (c := 1) (As := [.long (Int32.toInt64 r)]) (rest := []) (d' := 0) hC dX1_unsure_81 1 (lw_V q768 q770 qs17 q85 q771) (by decide +kernel) (List.mem_singleton.mp hm) (by decide) (by decide) rfl rfl rfl (Nat.le_of_ble_eq_true rfl) (Nat.le_trans (by decide) hd) (by decide) vMP_l (fun _ h => c_X1_tell (Nat.le_refl _) h) (fun σ_3 => ?_))
        refine V_iload_n hC dX1_unsure_84 rfl ?_
        exact V_ireturn dX1_unsure_85 rfl rfl
      · intro k hk
        exact (w_X1_unsure_34 hd a0 σ_1 k hk) FU 0 1
    · refine V_bipush (v := (-2)) hC dX1_unsure_27 rfl ?_
      exact V_ireturn dX1_unsure_29 rfl rfl
  · refine V_bipush (v := (-2)) hC dX1_unsure_7 rfl ?_
    exact V_ireturn dX1_unsure_9 rfl rfl
theorem c_X1_unsure {l : Launch} {d : Nat} (hd : 3 ≤ d) {σ : vMem} {a0 : Nat} {r : Int32 × vMem} (h : f_X1_unsure σ a0 = some r) : vOk l yX1_unsure cX1_unsure 3 (some .int) d [.ref a0] σ (.inl ((eI).1 r, (eI).2 r)) := V_method (em := eI) [some (.ref a0), none, none] (by decide +kernel) rfl (Nat.le_of_ble_eq_true rfl) (w_X1_unsure hd σ a0) h
/-! NobodyBeenAft.walked(I)I -/
def f_X1_walked (σ : vMem) (a0 : Nat) (x1 : Int32) : Option (Int32) := cko σ a0 [1] (vl (2 * ((gi σ a0 8) - 1)) (fun v2 => ck (¬ v2 = 0) (vl (x1 - (x1 / v2) * v2) (fun v3 => cko σ a0 [1] (if (gi σ a0 8) ≤ v3 then (some (v2 - v3)) else some v3)))))
abbrev P_X1_walked (l : Launch) (d n0 s0 : Nat) : vX → Prop := vMP l yX1_walked cX1_walked 4 (some .int) d n0 s0
theorem w_X1_walked {l : Launch} {d n0 s0 : Nat} (hd : 0 ≤ d) (σ : vMem) (a0 : Nat) (x1 : Int32) : V (P_X1_walked l d n0 s0) (vEmb (ePI σ)) σ 0 [some (.ref a0), some (.int x1), none, none] [] (f_X1_walked σ a0 x1) := by
  have hC : vPx (P_X1_walked l d n0 s0) cX1_walked 4 "NobodyBeenAft" (some .int) d := vMP_cx
  refine V_eq (f_X1_walked.eq_1 ..) ?_
  refine V_iconst (v := 2) hC dX1_walked_0 rfl ?_
  refine V_aload_n hC dX1_walked_1 rfl ?_
  refine g_X1_48 hC dX1_walked_2 ?_
  refine V_iconst (v := 1) hC dX1_walked_5 rfl ?_
  refine V_isub hC dX1_walked_6 ?_
  refine V_imul hC dX1_walked_7 ?_
  refine V_istore_nL (ls' := fun v2 => [some (.ref a0), some (.int x1), some (.int v2), none]) hC dX1_walked_8 (by decide) rfl (fun _ => rfl) (fun v2 => ?_)
  refine V_iload_n hC dX1_walked_9 rfl ?_
  refine V_iload_n hC dX1_walked_10 rfl ?_
  refine V_ck (fun h9 => V_irem hC dX1_walked_11 h9 ?_)
  refine V_istore_nL (ls' := fun v3 => [some (.ref a0), some (.int x1), some (.int v2), some (.int v3)]) hC dX1_walked_12 (by decide) rfl (fun _ => rfl) (fun v3 => ?_)
  refine V_iload_n hC dX1_walked_13 rfl ?_
  refine V_aload_n hC dX1_walked_14 rfl ?_
  refine g_X1_48 hC dX1_walked_15 ?_
  refine V_icmp_ge (tgt := 25) hC dX1_walked_18 (by decide) ?_ ?_
  · refine V_iload_n hC dX1_walked_25 rfl ?_
    refine V_iload_n hC dX1_walked_26 rfl ?_
    refine V_isub hC dX1_walked_27 ?_
    exact V_ireturn dX1_walked_28 rfl rfl
  · refine V_iload_n hC dX1_walked_21 rfl ?_
    refine V_goto (tgt := 28) hC dX1_walked_22 (by decide) ?_
    exact V_ireturn dX1_walked_28 rfl rfl
theorem c_X1_walked {l : Launch} {d : Nat} (hd : 0 ≤ d) {σ : vMem} {a0 : Nat} {x1 : Int32} {r : Int32} (h : f_X1_walked σ a0 x1 = some r) : vOk l yX1_walked cX1_walked 4 (some .int) d [.ref a0, .int x1] σ (.inl (((ePI σ)).1 r, ((ePI σ)).2 r)) := V_method (em := (ePI σ)) [some (.ref a0), some (.int x1), none, none] (by decide +kernel) rfl (Nat.le_of_ble_eq_true rfl) (w_X1_walked hd σ a0 x1) h
/-! NobodyBeenAft.boy(II)I -/
def f_X1_boy (σ : vMem) (a0 : Nat) (x1 : Int32) (x2 : Int32) : Option (Int32 × vMem) := bp (f_X1_in σ (Int32.toInt64 x1) 0 99999) (fun r => if r = 0 then (some ((-1), σ)) else bp (f_X1_in σ (Int32.toInt64 x2) 2 9) (fun r_1 => if ¬ r_1 = 0 then (ck (¬ x2 = 0) (vl (x1 - (x1 / x2)) (fun v3 => cko σ a0 [1] (vl (si σ a0 18 0) (fun σ_1 => cko σ_1 a0 [1] (ck (¬ (2 * ((gi σ_1 a0 8) - 1)) = 0) (cko σ_1 a0 [1] (vl (fun (y : Int64) => cko σ_1 a0 [1] (bv (f_X1_tell σ_1 a0 y) (fun σ_2 => cko σ_2 a0 [1] (bp (f_X1_walked σ_2 a0 v3) (fun r_2 => some (r_2, σ_2)))))) (fun k => if ((gi σ_1 a0 8) - 1) ≤ (v3 - (v3 / (2 * ((gi σ_1 a0 8) - 1))) * (2 * ((gi σ_1 a0 8) - 1))) then (k (-1)) else k 1))))))))) else some ((-1), σ)))
abbrev P_X1_boy (l : Launch) (d n0 s0 : Nat) : vX → Prop := vMP l yX1_boy cX1_boy 4 (some .int) d n0 s0
theorem w_X1_boy {l : Launch} {d n0 s0 : Nat} (hd : 1 ≤ d) (σ : vMem) (a0 : Nat) (x1 : Int32) (x2 : Int32) : V (P_X1_boy l d n0 s0) (vEmb eI) σ 0 [some (.ref a0), some (.int x1), some (.int x2), none] [] (f_X1_boy σ a0 x1 x2) := by
  have hC : vPx (P_X1_boy l d n0 s0) cX1_boy 4 "NobodyBeenAft" (some .int) d := vMP_cx
  refine V_eq (f_X1_boy.eq_1 ..) ?_
  refine V_iload_n hC dX1_boy_0 rfl ?_
  refine V_i2l hC dX1_boy_1 ?_
  refine V_lconst (v := 0) hC dX1_boy_2 rfl ?_
  refine V_ldc2 hC dX1_boy_3 q1148 ?_
  refine V_callS_PI (As := [.long (Int32.toInt64 x1), .long 0, .long 99999]) (rest := []) (d' := 0) hC dX1_boy_6 3 (lw_S q285 q286 q85 q287) (by decide +kernel) rfl rfl (Nat.le_of_ble_eq_true rfl) (Nat.le_trans (by decide) hd) (by decide) vMP_l (fun _ h => c_X1_in (Nat.le_refl _) h) (fun r => ?_)
  refine V_if_eq (tgt := 26) hC dX1_boy_9 (by decide) ?_ ?_
  · refine V_iconst (v := (-1)) hC dX1_boy_26 rfl ?_
    exact V_ireturn dX1_boy_27 rfl rfl
  · refine V_iload_n hC dX1_boy_12 rfl ?_
    refine V_i2l hC dX1_boy_13 ?_
    refine V_ldc2 hC dX1_boy_14 q1149 ?_
    refine V_ldc2 hC dX1_boy_17 q1150 ?_
    refine V_callS_PI (As := [.long (Int32.toInt64 x2), .long 2, .long 9]) (rest := []) (d' := 0) hC dX1_boy_20 3 (lw_S q285 q286 q85 q287) (by decide +kernel) rfl rfl (Nat.le_of_ble_eq_true rfl) (Nat.le_trans (by decide) hd) (by decide) vMP_l (fun _ h => c_X1_in (Nat.le_refl _) h) (fun r_1 => ?_)
    refine V_if_ne (tgt := 28) hC dX1_boy_23 (by decide) ?_ ?_
    · refine V_iload_n hC dX1_boy_28 rfl ?_
      refine V_iload_n hC dX1_boy_29 rfl ?_
      refine V_iload_n hC dX1_boy_30 rfl ?_
      refine V_ck (fun h9 => V_idiv hC dX1_boy_31 h9 ?_)
      refine V_isub hC dX1_boy_32 ?_
      refine V_istore_nL (ls' := fun v3 => [some (.ref a0), some (.int x1), some (.int x2), some (.int v3)]) hC dX1_boy_33 (by decide) rfl (fun _ => rfl) (fun v3 => ?_)
      refine V_aload_n hC dX1_boy_34 rfl ?_
      refine V_iconst (v := 0) hC dX1_boy_35 rfl ?_
      refine p_X1_84 hC dX1_boy_36 (fun σ_1 => ?_)
      refine V_aload_n hC dX1_boy_39 rfl ?_
      refine V_iload_n hC dX1_boy_40 rfl ?_
      refine V_iconst (v := 2) hC dX1_boy_41 rfl ?_
      refine V_aload_n hC dX1_boy_42 rfl ?_
      refine g_X1_48 hC dX1_boy_43 ?_
      refine V_iconst (v := 1) hC dX1_boy_46 rfl ?_
      refine V_isub hC dX1_boy_47 ?_
      refine V_imul hC dX1_boy_48 ?_
      refine V_ck (fun h9 => V_irem hC dX1_boy_49 h9 ?_)
      refine V_aload_n hC dX1_boy_50 rfl ?_
      refine g_X1_48 hC dX1_boy_51 ?_
      refine V_iconst (v := 1) hC dX1_boy_54 rfl ?_
      refine V_isub hC dX1_boy_55 ?_
      refine V_let (B := fun k => ∀ (y : Int64), V (P_X1_boy l d n0 s0) (vEmb eI) σ_1 66 [some (.ref a0), none, none, some (.int v3)] [.long y, .ref a0] (k y)) ?_ ?_
      · intro y
        refine V_cko (fun hm => V_callV_V (c := 1) (As := [.long y]) (rest := []) (d' := 0) hC dX1_boy_66 1 (lw_V q768 q770 qs17 q85 q771) (by decide +kernel) (List.mem_singleton.mp hm) (by decide) (by decide) rfl rfl rfl (Nat.le_of_ble_eq_true rfl) (Nat.le_trans (by decide) hd) (by decide) vMP_l (fun _ h => c_X1_tell (Nat.le_refl _) h) (fun σ_2 => ?_))
        refine V_aload_n hC dX1_boy_69 rfl ?_
        refine V_iload_n hC dX1_boy_70 rfl ?_
        refine V_cko (fun hm => V_callV_PI (c := 1) (As := [.int v3]) (rest := []) (d' := 0) hC dX1_boy_71 1 (lw_V q1151 q1153 qs30 q85 q1154) (by decide +kernel) (List.mem_singleton.mp hm) (by decide) (by decide) rfl rfl rfl (Nat.le_of_ble_eq_true rfl) (Nat.le_trans (by decide) hd) (by decide) vMP_l (fun _ h => c_X1_walked (Nat.le_refl _) h) (fun r_2 => ?_))
        exact V_ireturn dX1_boy_74 rfl rfl
      · intro k hk
        refine V_icmp_ge (tgt := 63) hC dX1_boy_56 (by decide) ?_ ?_
        · refine V_ldc2 hC dX1_boy_63 q697 ?_
          refine V_clr [1, 2] (ls' := [some (.ref a0), none, none, some (.int v3)]) rfl ?_
          exact hk (-1)
        · refine V_lconst (v := 1) hC dX1_boy_59 rfl ?_
          refine V_goto (tgt := 66) hC dX1_boy_60 (by decide) ?_
          refine V_clr [1, 2] (ls' := [some (.ref a0), none, none, some (.int v3)]) rfl ?_
          exact hk 1
    · refine V_iconst (v := (-1)) hC dX1_boy_26 rfl ?_
      exact V_ireturn dX1_boy_27 rfl rfl
theorem c_X1_boy {l : Launch} {d : Nat} (hd : 1 ≤ d) {σ : vMem} {a0 : Nat} {x1 : Int32} {x2 : Int32} {r : Int32 × vMem} (h : f_X1_boy σ a0 x1 x2 = some r) : vOk l yX1_boy cX1_boy 4 (some .int) d [.ref a0, .int x1, .int x2] σ (.inl ((eI).1 r, (eI).2 r)) := V_method (em := eI) [some (.ref a0), some (.int x1), some (.int x2), none] (by decide +kernel) rfl (Nat.le_of_ble_eq_true rfl) (w_X1_boy hd σ a0 x1 x2) h
/-! NobodyBeenAft.meets(I)I -/
def f_X1_meets_18 (σ : vMem) (a0 : Nat) (x1 : Int32) (k : Int32 → Option (Int32 × vMem)) : Nat → Int32 → Option (Int32 × vMem)
  | 0, _ => none
  | n + 1, v2_1 => if 999 < v2_1 then (some ((-2), σ)) else ck (¬ x1 = 0) (cko σ a0 [1] (bp (f_X1_walked σ a0 (v2_1 - (v2_1 / x1))) (fun r_2 => cko σ a0 [1] (cko σ a0 [1] (bp (f_X1_walked σ a0 ((v2_1 + (gi σ a0 8)) - 1)) (fun r_3 => if r_2 = r_3 then (k v2_1) else vl (v2_1 + 1) (fun v2_2 => f_X1_meets_18 σ a0 x1 k n v2_2)))))))
def f_X1_meets (σ : vMem) (a0 : Nat) (x1 : Int32) : Option (Int32 × vMem) := bp (f_X1_in σ (Int32.toInt64 x1) 2 9) (fun r => if ¬ r = 0 then (vl (fun (v2 : Int32) => cko σ a0 [1] (vl (si σ a0 18 0) (fun σ_1 => ck (¬ x1 = 0) (cko σ_1 a0 [1] (bp (f_X1_walked σ_1 a0 (v2 - (v2 / x1))) (fun r_1 => cko σ_1 a0 [1] (bv (f_X1_tell σ_1 a0 (Int32.toInt64 r_1)) (fun σ_2 => some (v2, σ_2))))))))) (fun k => f_X1_meets_18 σ a0 x1 k FU 1)) else some ((-1), σ))
abbrev P_X1_meets (l : Launch) (d n0 s0 : Nat) : vX → Prop := vMP l yX1_meets cX1_meets 3 (some .int) d n0 s0
theorem w_X1_meets_18 {l : Launch} {d n0 s0 : Nat} (hd : 1 ≤ d) (σ : vMem) (a0 : Nat) (x1 : Int32) (k : Int32 → Option (Int32 × vMem)) (hk : ∀ (v2 : Int32), V (P_X1_meets l d n0 s0) (vEmb eI) σ 52 [some (.ref a0), some (.int x1), some (.int v2)] [] (k v2)) : ∀ (n : Nat) (v2_1 : Int32), V (P_X1_meets l d n0 s0) (vEmb eI) σ 18 [some (.ref a0), some (.int x1), some (.int v2_1)] [] (f_X1_meets_18 σ a0 x1 k n v2_1) := by
  have hC : vPx (P_X1_meets l d n0 s0) cX1_meets 3 "NobodyBeenAft" (some .int) d := vMP_cx
  intro n
  induction n with
  | zero =>
    intro v2_1
    exact V_none
  | succ n ih =>
    intro v2_1
    refine V_eq (f_X1_meets_18.eq_2 ..) ?_
    refine V_iload_n hC dX1_meets_18 rfl ?_
    refine V_sipush (v := 999) hC dX1_meets_19 rfl ?_
    refine V_icmp_gt (tgt := 79) hC dX1_meets_22 (by decide) ?_ ?_
    · refine V_bipush (v := (-2)) hC dX1_meets_79 rfl ?_
      exact V_ireturn dX1_meets_81 rfl rfl
    · refine V_aload_n hC dX1_meets_25 rfl ?_
      refine V_iload_n hC dX1_meets_26 rfl ?_
      refine V_iload_n hC dX1_meets_27 rfl ?_
      refine V_iload_n hC dX1_meets_28 rfl ?_
      refine V_ck (fun h9 => V_idiv hC dX1_meets_29 h9 ?_)
      refine V_isub hC dX1_meets_30 ?_
      refine V_cko (fun hm => V_callV_PI (c := 1) (As := [.int (v2_1 - (v2_1 / x1))]) (rest := []) (d' := 0) hC dX1_meets_31 1 (lw_V q1151 q1153 qs30 q85 q1154) (by decide +kernel) (List.mem_singleton.mp hm) (by decide) (by decide) rfl rfl rfl (Nat.le_of_ble_eq_true rfl) (Nat.le_trans (by decide) hd) (by decide) vMP_l (fun _ h => c_X1_walked (Nat.le_refl _) h) (fun r_2 => ?_))
      refine V_aload_n hC dX1_meets_34 rfl ?_
      refine V_iload_n hC dX1_meets_35 rfl ?_
      refine V_aload_n hC dX1_meets_36 rfl ?_
      refine g_X1_48 hC dX1_meets_37 ?_
      refine V_iadd hC dX1_meets_40 ?_
      refine V_iconst (v := 1) hC dX1_meets_41 rfl ?_
      refine V_isub hC dX1_meets_42 ?_
      refine V_cko (fun hm => V_callV_PI (c := 1) (As := [.int ((v2_1 + (gi σ a0 8)) - 1)]) (rest := [.int r_2]) (d' := 0) hC dX1_meets_43 1 (lw_V q1151 q1153 qs30 q85 q1154) (by decide +kernel) (List.mem_singleton.mp hm) (by decide) (by decide) rfl rfl rfl (Nat.le_of_ble_eq_true rfl) (Nat.le_trans (by decide) hd) (by decide) vMP_l (fun _ h => c_X1_walked (Nat.le_refl _) h) (fun r_3 => ?_))
      refine V_icmp_eq (tgt := 52) hC dX1_meets_46 (by decide) ?_ ?_
      · exact hk v2_1
      · refine V_goto (tgt := 73) hC dX1_meets_49 (by decide) ?_
        refine V_iincL (v := v2_1 + 1) (ls' := fun v2_2 => [some (.ref a0), some (.int x1), some (.int v2_2)]) hC dX1_meets_73 rfl (by decide) rfl rfl (fun _ => rfl) (fun v2_2 => ?_)
        refine V_goto (tgt := 18) hC dX1_meets_76 (by decide) ?_
        exact ih v2_2
theorem w_X1_meets {l : Launch} {d n0 s0 : Nat} (hd : 1 ≤ d) (σ : vMem) (a0 : Nat) (x1 : Int32) : V (P_X1_meets l d n0 s0) (vEmb eI) σ 0 [some (.ref a0), some (.int x1), none] [] (f_X1_meets σ a0 x1) := by
  have hC : vPx (P_X1_meets l d n0 s0) cX1_meets 3 "NobodyBeenAft" (some .int) d := vMP_cx
  refine V_eq (f_X1_meets.eq_1 ..) ?_
  refine V_iload_n hC dX1_meets_0 rfl ?_
  refine V_i2l hC dX1_meets_1 ?_
  refine V_ldc2 hC dX1_meets_2 q1149 ?_
  refine V_ldc2 hC dX1_meets_5 q1150 ?_
  refine V_callS_PI (As := [.long (Int32.toInt64 x1), .long 2, .long 9]) (rest := []) (d' := 0) hC dX1_meets_8 3 (lw_S q285 q286 q85 q287) (by decide +kernel) rfl rfl (Nat.le_of_ble_eq_true rfl) (Nat.le_trans (by decide) hd) (by decide) vMP_l (fun _ h => c_X1_in (Nat.le_refl _) h) (fun r => ?_)
  refine V_if_ne (tgt := 16) hC dX1_meets_11 (by decide) ?_ ?_
  · refine V_iconst (v := 1) hC dX1_meets_16 rfl ?_
    refine V_istore_n (ls' := [some (.ref a0), some (.int x1), some (.int 1)]) hC dX1_meets_17 (by decide) rfl rfl ?_
    refine V_let (B := fun k => ∀ (v2 : Int32), V (P_X1_meets l d n0 s0) (vEmb eI) σ 52 [some (.ref a0), some (.int x1), some (.int v2)] [] (k v2)) ?_ ?_
    · intro v2
      refine V_aload_n hC dX1_meets_52 rfl ?_
      refine V_iconst (v := 0) hC dX1_meets_53 rfl ?_
      refine p_X1_84 hC dX1_meets_54 (fun σ_1 => ?_)
      refine V_aload_n hC dX1_meets_57 rfl ?_
      refine V_aload_n hC dX1_meets_58 rfl ?_
      refine V_iload_n hC dX1_meets_59 rfl ?_
      refine V_iload_n hC dX1_meets_60 rfl ?_
      refine V_iload_n hC dX1_meets_61 rfl ?_
      refine V_ck (fun h9 => V_idiv hC dX1_meets_62 h9 ?_)
      refine V_isub hC dX1_meets_63 ?_
      refine V_cko (fun hm => V_callV_PI (c := 1) (As := [.int (v2 - (v2 / x1))]) (rest := [.ref a0]) (d' := 0) hC dX1_meets_64 1 (lw_V q1151 q1153 qs30 q85 q1154) (by decide +kernel) (List.mem_singleton.mp hm) (by decide) (by decide) rfl rfl rfl (Nat.le_of_ble_eq_true rfl) (Nat.le_trans (by decide) hd) (by decide) vMP_l (fun _ h => c_X1_walked (Nat.le_refl _) h) (fun r_1 => ?_))
      refine V_i2l hC dX1_meets_67 ?_
      refine V_cko (fun hm => V_callV_V (c := 1) (As := [.long (Int32.toInt64 r_1)]) (rest := []) (d' := 0) hC dX1_meets_68 1 (lw_V q768 q770 qs17 q85 q771) (by decide +kernel) (List.mem_singleton.mp hm) (by decide) (by decide) rfl rfl rfl (Nat.le_of_ble_eq_true rfl) (Nat.le_trans (by decide) hd) (by decide) vMP_l (fun _ h => c_X1_tell (Nat.le_refl _) h) (fun σ_2 => ?_))
      refine V_iload_n hC dX1_meets_71 rfl ?_
      exact V_ireturn dX1_meets_72 rfl rfl
    · intro k hk
      exact (w_X1_meets_18 hd σ a0 x1 k hk) FU 1
  · refine V_iconst (v := (-1)) hC dX1_meets_14 rfl ?_
    exact V_ireturn dX1_meets_15 rfl rfl
theorem c_X1_meets {l : Launch} {d : Nat} (hd : 1 ≤ d) {σ : vMem} {a0 : Nat} {x1 : Int32} {r : Int32 × vMem} (h : f_X1_meets σ a0 x1 = some r) : vOk l yX1_meets cX1_meets 3 (some .int) d [.ref a0, .int x1] σ (.inl ((eI).1 r, (eI).2 r)) := V_method (em := eI) [some (.ref a0), some (.int x1), none] (by decide +kernel) rfl (Nat.le_of_ble_eq_true rfl) (w_X1_meets hd σ a0 x1) h
/-! NobodyBeenAft.knows(II)I -/
def f_X1_knows (σ : vMem) (a0 : Nat) (x1 : Int32) (x2 : Int32) : Option (Int32 × vMem) := bp (f_X1_in σ (Int32.toInt64 x1) 0 12) (fun r => if r = 0 then (some ((-1), σ)) else bp (f_X1_in σ (Int32.toInt64 x2) 0 10) (fun r_1 => if ¬ r_1 = 0 then (cko σ a0 [1] (vl (si σ a0 18 0) (fun σ_1 => bp (f_X1_power σ_1 (10 - (Int32.toInt64 x2)) x1) (fun r_2 => bp (f_X1_power σ_1 10 (x1 + 1)) (fun r_3 => cko σ_1 a0 [1] (bv (f_X1_tellPart σ_1 a0 (r_2 * (Int32.toInt64 x2)) r_3) (fun σ_2 => some (0, σ_2)))))))) else some ((-1), σ)))
abbrev P_X1_knows (l : Launch) (d n0 s0 : Nat) : vX → Prop := vMP l yX1_knows cX1_knows 3 (some .int) d n0 s0
theorem w_X1_knows {l : Launch} {d n0 s0 : Nat} (hd : 102 ≤ d) (σ : vMem) (a0 : Nat) (x1 : Int32) (x2 : Int32) : V (P_X1_knows l d n0 s0) (vEmb eI) σ 0 [some (.ref a0), some (.int x1), some (.int x2)] [] (f_X1_knows σ a0 x1 x2) := by
  have hC : vPx (P_X1_knows l d n0 s0) cX1_knows 3 "NobodyBeenAft" (some .int) d := vMP_cx
  refine V_eq (f_X1_knows.eq_1 ..) ?_
  refine V_iload_n hC dX1_knows_0 rfl ?_
  refine V_i2l hC dX1_knows_1 ?_
  refine V_lconst (v := 0) hC dX1_knows_2 rfl ?_
  refine V_ldc2 hC dX1_knows_3 q1029 ?_
  refine V_callS_PI (As := [.long (Int32.toInt64 x1), .long 0, .long 12]) (rest := []) (d' := 0) hC dX1_knows_6 3 (lw_S q285 q286 q85 q287) (by decide +kernel) rfl rfl (Nat.le_of_ble_eq_true rfl) (Nat.le_trans (by decide) hd) (by decide) vMP_l (fun _ h => c_X1_in (Nat.le_refl _) h) (fun r => ?_)
  refine V_if_eq (tgt := 24) hC dX1_knows_9 (by decide) ?_ ?_
  · refine V_iconst (v := (-1)) hC dX1_knows_24 rfl ?_
    exact V_ireturn dX1_knows_25 rfl rfl
  · refine V_iload_n hC dX1_knows_12 rfl ?_
    refine V_i2l hC dX1_knows_13 ?_
    refine V_lconst (v := 0) hC dX1_knows_14 rfl ?_
    refine V_ldc2 hC dX1_knows_15 q1035 ?_
    refine V_callS_PI (As := [.long (Int32.toInt64 x2), .long 0, .long 10]) (rest := []) (d' := 0) hC dX1_knows_18 3 (lw_S q285 q286 q85 q287) (by decide +kernel) rfl rfl (Nat.le_of_ble_eq_true rfl) (Nat.le_trans (by decide) hd) (by decide) vMP_l (fun _ h => c_X1_in (Nat.le_refl _) h) (fun r_1 => ?_)
    refine V_if_ne (tgt := 26) hC dX1_knows_21 (by decide) ?_ ?_
    · refine V_aload_n hC dX1_knows_26 rfl ?_
      refine V_iconst (v := 0) hC dX1_knows_27 rfl ?_
      refine p_X1_84 hC dX1_knows_28 (fun σ_1 => ?_)
      refine V_aload_n hC dX1_knows_31 rfl ?_
      refine V_ldc2 hC dX1_knows_32 q1035 ?_
      refine V_iload_n hC dX1_knows_35 rfl ?_
      refine V_i2l hC dX1_knows_36 ?_
      refine V_lsub hC dX1_knows_37 ?_
      refine V_iload_n hC dX1_knows_38 rfl ?_
      refine V_callS_PL (As := [.long (10 - (Int32.toInt64 x2)), .int x1]) (rest := [.ref a0]) (d' := 0) hC dX1_knows_39 2 (lw_S q1052 q1053 q85 q1054) (by decide +kernel) rfl rfl (Nat.le_of_ble_eq_true rfl) (Nat.le_trans (by decide) hd) (by decide) vMP_l (fun _ h => c_X1_power (Nat.le_refl _) h) (fun r_2 => ?_)
      refine V_iload_n hC dX1_knows_42 rfl ?_
      refine V_i2l hC dX1_knows_43 ?_
      refine V_lmul hC dX1_knows_44 ?_
      refine V_ldc2 hC dX1_knows_45 q1035 ?_
      refine V_iload_n hC dX1_knows_48 rfl ?_
      refine V_iconst (v := 1) hC dX1_knows_49 rfl ?_
      refine V_iadd hC dX1_knows_50 ?_
      refine V_callS_PL (As := [.long 10, .int (x1 + 1)]) (rest := [.long (r_2 * (Int32.toInt64 x2)), .ref a0]) (d' := 0) hC dX1_knows_51 2 (lw_S q1052 q1053 q85 q1054) (by decide +kernel) rfl rfl (Nat.le_of_ble_eq_true rfl) (Nat.le_trans (by decide) hd) (by decide) vMP_l (fun _ h => c_X1_power (Nat.le_refl _) h) (fun r_3 => ?_)
      refine V_cko (fun hm => V_callV_V (c := 1) (As := [.long (r_2 * (Int32.toInt64 x2)), .long r_3]) (rest := []) (d' := 101) hC dX1_knows_54 2 (lw_V q1055 q1057 qs21 q85 q1058) (by decide +kernel) (List.mem_singleton.mp hm) (by decide) (by decide) rfl rfl rfl (Nat.le_of_ble_eq_true rfl) (Nat.le_trans (by decide) hd) (by decide) vMP_l (fun _ h => c_X1_tellPart (Nat.le_refl _) h) (fun σ_2 => ?_))
      refine V_iconst (v := 0) hC dX1_knows_57 rfl ?_
      exact V_ireturn dX1_knows_58 rfl rfl
    · refine V_iconst (v := (-1)) hC dX1_knows_24 rfl ?_
      exact V_ireturn dX1_knows_25 rfl rfl
theorem c_X1_knows {l : Launch} {d : Nat} (hd : 102 ≤ d) {σ : vMem} {a0 : Nat} {x1 : Int32} {x2 : Int32} {r : Int32 × vMem} (h : f_X1_knows σ a0 x1 x2 = some r) : vOk l yX1_knows cX1_knows 3 (some .int) d [.ref a0, .int x1, .int x2] σ (.inl ((eI).1 r, (eI).2 r)) := V_method (em := eI) [some (.ref a0), some (.int x1), some (.int x2)] (by decide +kernel) rfl (Nat.le_of_ble_eq_true rfl) (w_X1_knows hd σ a0 x1 x2) h
/-! NobodyBeenAft.holds(IIII)I -/
def f_X1_holds (σ : vMem) (x0 : Int32) (x1 : Int32) (x2 : Int32) (x3 : Int32) : Option (Int32) := if (x1 + x2) < x3 then (some (x0 / 2)) else some (x0 - x1)
abbrev P_X1_holds (l : Launch) (d n0 s0 : Nat) : vX → Prop := vMP l yX1_holds cX1_holds 4 (some .int) d n0 s0
theorem w_X1_holds {l : Launch} {d n0 s0 : Nat} (hd : 0 ≤ d) (σ : vMem) (x0 : Int32) (x1 : Int32) (x2 : Int32) (x3 : Int32) : V (P_X1_holds l d n0 s0) (vEmb (ePI σ)) σ 0 [some (.int x0), some (.int x1), some (.int x2), some (.int x3)] [] (f_X1_holds σ x0 x1 x2 x3) := by
  have hC : vPx (P_X1_holds l d n0 s0) cX1_holds 4 "NobodyBeenAft" (some .int) d := vMP_cx
  refine V_eq (f_X1_holds.eq_1 ..) ?_
  refine V_iload_n hC dX1_holds_0 rfl ?_
  refine V_iload_n hC dX1_holds_1 rfl ?_
  refine V_iadd hC dX1_holds_2 ?_
  refine V_iload_n hC dX1_holds_3 rfl ?_
  refine V_icmp_lt (tgt := 13) hC dX1_holds_4 (by decide) ?_ ?_
  · refine V_iload_n hC dX1_holds_13 rfl ?_
    refine V_iconst (v := 2) hC dX1_holds_14 rfl ?_
    refine V_idiv hC dX1_holds_15 (by decide) ?_
    exact V_ireturn dX1_holds_16 rfl rfl
  · refine V_iload_n hC dX1_holds_7 rfl ?_
    refine V_iload_n hC dX1_holds_8 rfl ?_
    refine V_isub hC dX1_holds_9 ?_
    refine V_goto (tgt := 16) hC dX1_holds_10 (by decide) ?_
    exact V_ireturn dX1_holds_16 rfl rfl
theorem c_X1_holds {l : Launch} {d : Nat} (hd : 0 ≤ d) {σ : vMem} {x0 : Int32} {x1 : Int32} {x2 : Int32} {x3 : Int32} {r : Int32} (h : f_X1_holds σ x0 x1 x2 x3 = some r) : vOk l yX1_holds cX1_holds 4 (some .int) d [.int x0, .int x1, .int x2, .int x3] σ (.inl (((ePI σ)).1 r, ((ePI σ)).2 r)) := V_method (em := (ePI σ)) [some (.int x0), some (.int x1), some (.int x2), some (.int x3)] (by decide +kernel) rfl (Nat.le_of_ble_eq_true rfl) (w_X1_holds hd σ x0 x1 x2 x3) h
/-! NobodyBeenAft.isBest(IIII)Z -/
def f_X1_isBest_3 (σ : vMem) (x0 : Int32) (x1 : Int32) (x2 : Int32) (x3 : Int32) : Nat → Int32 → Option (Int32)
  | 0, _ => none
  | n + 1, v4 => if (imin 9 x0) < v4 then (some 1) else bp (f_X1_holds σ x0 v4 x2 x3) (fun r => bp (f_X1_holds σ x0 x1 x2 x3) (fun r_1 => if r ≤ r_1 then (vl (v4 + 1) (fun v4_1 => f_X1_isBest_3 σ x0 x1 x2 x3 n v4_1)) else some 0))
def f_X1_isBest (σ : vMem) (x0 : Int32) (x1 : Int32) (x2 : Int32) (x3 : Int32) : Option (Int32) := f_X1_isBest_3 σ x0 x1 x2 x3 FU 0
abbrev P_X1_isBest (l : Launch) (d n0 s0 : Nat) : vX → Prop := vMP l yX1_isBest cX1_isBest 5 (some .boolean) d n0 s0
theorem w_X1_isBest_3 {l : Launch} {d n0 s0 : Nat} (hd : 1 ≤ d) (σ : vMem) (x0 : Int32) (x1 : Int32) (x2 : Int32) (x3 : Int32)  : ∀ (n : Nat) (v4 : Int32), V (P_X1_isBest l d n0 s0) (vEmb (ePI σ)) σ 3 [some (.int x0), some (.int x1), some (.int x2), some (.int x3), some (.int v4)] [] (f_X1_isBest_3 σ x0 x1 x2 x3 n v4) := by
  have hC : vPx (P_X1_isBest l d n0 s0) cX1_isBest 5 "NobodyBeenAft" (some .boolean) d := vMP_cx
  intro n
  induction n with
  | zero =>
    intro v4
    exact V_none
  | succ n ih =>
    intro v4
    refine V_eq (f_X1_isBest_3.eq_2 ..) ?_
    refine V_iload hC dX1_isBest_3 rfl ?_
    refine V_bipush (v := 9) hC dX1_isBest_5 rfl ?_
    refine V_iload_n hC dX1_isBest_7 rfl ?_
    refine V_mmin hC dX1_isBest_8 q675 q327 q90 q328 (Nat.le_of_ble_eq_true rfl) ?_
    refine V_icmp_gt (tgt := 40) hC dX1_isBest_11 (by decide) ?_ ?_
    · refine V_iconst (v := 1) hC dX1_isBest_40 rfl ?_
      exact V_zreturn rfl dX1_isBest_41 rfl rfl
    · refine V_iload_n hC dX1_isBest_14 rfl ?_
      refine V_iload hC dX1_isBest_15 rfl ?_
      refine V_iload_n hC dX1_isBest_17 rfl ?_
      refine V_iload_n hC dX1_isBest_18 rfl ?_
      refine V_callS_PI (As := [.int x0, .int v4, .int x2, .int x3]) (rest := []) (d' := 0) hC dX1_isBest_19 4 (lw_S q1172 q1173 q85 q1174) (by decide +kernel) rfl rfl (Nat.le_of_ble_eq_true rfl) (Nat.le_trans (by decide) hd) (by decide) vMP_l (fun _ h => c_X1_holds (Nat.le_refl _) h) (fun r => ?_)
      refine V_iload_n hC dX1_isBest_22 rfl ?_
      refine V_iload_n hC dX1_isBest_23 rfl ?_
      refine V_iload_n hC dX1_isBest_24 rfl ?_
      refine V_iload_n hC dX1_isBest_25 rfl ?_
      refine V_callS_PI (As := [.int x0, .int x1, .int x2, .int x3]) (rest := [.int r]) (d' := 0) hC dX1_isBest_26 4 (lw_S q1172 q1173 q85 q1174) (by decide +kernel) rfl rfl (Nat.le_of_ble_eq_true rfl) (Nat.le_trans (by decide) hd) (by decide) vMP_l (fun _ h => c_X1_holds (Nat.le_refl _) h) (fun r_1 => ?_)
      refine V_icmp_le (tgt := 34) hC dX1_isBest_29 (by decide) ?_ ?_
      · refine V_iincL (v := v4 + 1) (ls' := fun v4_1 => [some (.int x0), some (.int x1), some (.int x2), some (.int x3), some (.int v4_1)]) hC dX1_isBest_34 rfl (by decide) rfl rfl (fun _ => rfl) (fun v4_1 => ?_)
        refine V_goto (tgt := 3) hC dX1_isBest_37 (by decide) ?_
        exact ih v4_1
      · refine V_iconst (v := 0) hC dX1_isBest_32 rfl ?_
        exact V_zreturn rfl dX1_isBest_33 rfl rfl
theorem w_X1_isBest {l : Launch} {d n0 s0 : Nat} (hd : 1 ≤ d) (σ : vMem) (x0 : Int32) (x1 : Int32) (x2 : Int32) (x3 : Int32) : V (P_X1_isBest l d n0 s0) (vEmb (ePI σ)) σ 0 [some (.int x0), some (.int x1), some (.int x2), some (.int x3), none] [] (f_X1_isBest σ x0 x1 x2 x3) := by
  have hC : vPx (P_X1_isBest l d n0 s0) cX1_isBest 5 "NobodyBeenAft" (some .boolean) d := vMP_cx
  refine V_eq (f_X1_isBest.eq_1 ..) ?_
  refine V_iconst (v := 0) hC dX1_isBest_0 rfl ?_
  refine V_istore (ls' := [some (.int x0), some (.int x1), some (.int x2), some (.int x3), some (.int 0)]) hC dX1_isBest_1 (by decide) rfl rfl ?_
  exact (w_X1_isBest_3 hd σ x0 x1 x2 x3) FU 0
theorem c_X1_isBest {l : Launch} {d : Nat} (hd : 1 ≤ d) {σ : vMem} {x0 : Int32} {x1 : Int32} {x2 : Int32} {x3 : Int32} {r : Int32} (h : f_X1_isBest σ x0 x1 x2 x3 = some r) : vOk l yX1_isBest cX1_isBest 5 (some .boolean) d [.int x0, .int x1, .int x2, .int x3] σ (.inl (((ePI σ)).1 r, ((ePI σ)).2 r)) := V_method (em := (ePI σ)) [some (.int x0), some (.int x1), some (.int x2), some (.int x3), none] (by decide +kernel) rfl (Nat.le_of_ble_eq_true rfl) (w_X1_isBest hd σ x0 x1 x2 x3) h
/-! NobodyBeenAft.mutiny(III)I -/
def f_X1_mutiny_63 (a0 : Nat) (x1 : Int32) (x2 : Int32) (x3 : Int32) (v5 : Int32) (k : vMem → Int32 → Option (Int32 × vMem)) : Nat → vMem → Int32 → Int32 → Option (Int32 × vMem)
  | 0, _, _, _ => none
  | n_1 + 1, σ_4, v4_2, v6 => if (imin 9 x2) < v6 then (k σ_4 v4_2) else bp (f_X1_isBest σ_4 x1 v5 v6 x3) (fun r_3 => vl (fun (σ_5 : vMem) (v4_3 : Int32) => vl (v6 + 1) (fun v6_1 => f_X1_mutiny_63 a0 x1 x2 x3 v5 k n_1 σ_5 v4_3 v6_1)) (fun k_1 => if r_3 = 0 then (k_1 σ_4 v4_2) else bp (f_X1_isBest σ_4 x2 v6 v5 x3) (fun r_4 => if ¬ r_4 = 0 then (vl (fun (σ_6 : vMem) => vl (v4_2 + 1) (fun v4_4 => k_1 σ_6 v4_4)) (fun k_2 => if ¬ v4_2 = 0 then (k_2 σ_4) else cko σ_4 a0 [1] (bv (f_X1_tell σ_4 a0 (Int32.toInt64 v5)) (fun σ_7 => cko σ_7 a0 [1] (bv (f_X1_tell σ_7 a0 (Int32.toInt64 v6)) (fun σ_8 => k_2 σ_8)))))) else k_1 σ_4 v4_2)))
def f_X1_mutiny_49 (a0 : Nat) (x1 : Int32) (x2 : Int32) (x3 : Int32) : Nat → vMem → Int32 → Int32 → Option (Int32 × vMem)
  | 0, _, _, _ => none
  | n + 1, σ_2, v4, v5 => if (imin 9 x1) < v5 then (some (v4, σ_2)) else vl (fun (σ_3 : vMem) (v4_1 : Int32) => vl (v5 + 1) (fun v5_1 => f_X1_mutiny_49 a0 x1 x2 x3 n σ_3 v4_1 v5_1)) (fun k => f_X1_mutiny_63 a0 x1 x2 x3 v5 k FU σ_2 v4 0)
def f_X1_mutiny (σ : vMem) (a0 : Nat) (x1 : Int32) (x2 : Int32) (x3 : Int32) : Option (Int32 × vMem) := bp (f_X1_in σ (Int32.toInt64 x1) 1 20) (fun r => if r = 0 then (some ((-1), σ)) else bp (f_X1_in σ (Int32.toInt64 x2) 1 20) (fun r_1 => if r_1 = 0 then (some ((-1), σ)) else bp (f_X1_in σ (Int32.toInt64 x3) 1 18) (fun r_2 => if ¬ r_2 = 0 then (cko σ a0 [1] (vl (si σ a0 18 0) (fun σ_1 => f_X1_mutiny_49 a0 x1 x2 x3 FU σ_1 0 0))) else some ((-1), σ))))
abbrev P_X1_mutiny (l : Launch) (d n0 s0 : Nat) : vX → Prop := vMP l yX1_mutiny cX1_mutiny 7 (some .int) d n0 s0
theorem w_X1_mutiny_63 {l : Launch} {d n0 s0 : Nat} (hd : 2 ≤ d) (a0 : Nat) (x1 : Int32) (x2 : Int32) (x3 : Int32) (v5 : Int32) (k : vMem → Int32 → Option (Int32 × vMem)) (hk : ∀ (σ_3 : vMem), ∀ (v4_1 : Int32), V (P_X1_mutiny l d n0 s0) (vEmb eI) σ_3 129 [some (.ref a0), some (.int x1), some (.int x2), some (.int x3), some (.int v4_1), some (.int v5), none] [] (k σ_3 v4_1)) : ∀ (n_1 : Nat) (σ_4 : vMem) (v4_2 : Int32) (v6 : Int32), V (P_X1_mutiny l d n0 s0) (vEmb eI) σ_4 63 [some (.ref a0), some (.int x1), some (.int x2), some (.int x3), some (.int v4_2), some (.int v5), some (.int v6)] [] (f_X1_mutiny_63 a0 x1 x2 x3 v5 k n_1 σ_4 v4_2 v6) := by
  have hC : vPx (P_X1_mutiny l d n0 s0) cX1_mutiny 7 "NobodyBeenAft" (some .int) d := vMP_cx
  intro n_1
  induction n_1 with
  | zero =>
    intro σ_4 v4_2 v6
    exact V_none
  | succ n_1 ih =>
    intro σ_4 v4_2 v6
    refine V_eq (f_X1_mutiny_63.eq_2 ..) ?_
    refine V_iload hC dX1_mutiny_63 rfl ?_
    refine V_bipush (v := 9) hC dX1_mutiny_65 rfl ?_
    refine V_iload_n hC dX1_mutiny_67 rfl ?_
    refine V_mmin hC dX1_mutiny_68 q675 q327 q90 q328 (Nat.le_of_ble_eq_true rfl) ?_
    refine V_icmp_gt (tgt := 129) hC dX1_mutiny_71 (by decide) ?_ ?_
    · refine V_clr [6] (ls' := [some (.ref a0), some (.int x1), some (.int x2), some (.int x3), some (.int v4_2), some (.int v5), none]) rfl ?_
      exact hk σ_4 v4_2
    · refine V_iload_n hC dX1_mutiny_74 rfl ?_
      refine V_iload hC dX1_mutiny_75 rfl ?_
      refine V_iload hC dX1_mutiny_77 rfl ?_
      refine V_iload_n hC dX1_mutiny_79 rfl ?_
      refine V_callS_PI (As := [.int x1, .int v5, .int v6, .int x3]) (rest := []) (d' := 1) hC dX1_mutiny_80 4 (lw_S q1169 q1170 q85 q1171) (by decide +kernel) rfl rfl (Nat.le_of_ble_eq_true rfl) (Nat.le_trans (by decide) hd) (by decide) vMP_l (fun _ h => c_X1_isBest (Nat.le_refl _) h) (fun r_3 => ?_)
      refine V_let (B := fun k_1 => ∀ (σ_5 : vMem), ∀ (v4_3 : Int32), V (P_X1_mutiny l d n0 s0) (vEmb eI) σ_5 123 [some (.ref a0), some (.int x1), some (.int x2), some (.int x3), some (.int v4_3), some (.int v5), some (.int v6)] [] (k_1 σ_5 v4_3)) ?_ ?_
      · intro σ_5 v4_3
        refine V_iincL (v := v6 + 1) (ls' := fun v6_1 => [some (.ref a0), some (.int x1), some (.int x2), some (.int x3), some (.int v4_3), some (.int v5), some (.int v6_1)]) hC dX1_mutiny_123 rfl (by decide) rfl rfl (fun _ => rfl) (fun v6_1 => ?_)
        refine V_goto (tgt := 63) hC dX1_mutiny_126 (by decide) ?_
        exact ih σ_5 v4_3 v6_1
      · intro k_1 hk_1
        refine V_if_eq (tgt := 123) hC dX1_mutiny_83 (by decide) ?_ ?_
        · exact hk_1 σ_4 v4_2
        · refine V_iload_n hC dX1_mutiny_86 rfl ?_
          refine V_iload hC dX1_mutiny_87 rfl ?_
          refine V_iload hC dX1_mutiny_89 rfl ?_
          refine V_iload_n hC dX1_mutiny_91 rfl ?_
          refine V_callS_PI (As := [.int x2, .int v6, .int v5, .int x3]) (rest := []) (d' := 1) hC dX1_mutiny_92 4 (lw_S q1169 q1170 q85 q1171) (by decide +kernel) rfl rfl (Nat.le_of_ble_eq_true rfl) (Nat.le_trans (by decide) hd) (by decide) vMP_l (fun _ h => c_X1_isBest (Nat.le_refl _) h) (fun r_4 => ?_)
          refine V_if_ne (tgt := 101) hC dX1_mutiny_95 (by decide) ?_ ?_
          · refine V_iload hC dX1_mutiny_101 rfl ?_
            refine V_let (B := fun k_2 => ∀ (σ_6 : vMem), V (P_X1_mutiny l d n0 s0) (vEmb eI) σ_6 120 [some (.ref a0), some (.int x1), some (.int x2), some (.int x3), some (.int v4_2), some (.int v5), some (.int v6)] [] (k_2 σ_6)) ?_ ?_
            · intro σ_6
              refine V_iincL (v := v4_2 + 1) (ls' := fun v4_4 => [some (.ref a0), some (.int x1), some (.int x2), some (.int x3), some (.int v4_4), some (.int v5), some (.int v6)]) hC dX1_mutiny_120 rfl (by decide) rfl rfl (fun _ => rfl) (fun v4_4 => ?_)
              exact hk_1 σ_6 v4_4
            · intro k_2 hk_2
              refine V_if_ne (tgt := 120) hC dX1_mutiny_103 (by decide) ?_ ?_
              · exact hk_2 σ_4
              · refine V_aload_n hC dX1_mutiny_106 rfl ?_
                refine V_iload hC dX1_mutiny_107 rfl ?_
                refine V_i2l hC dX1_mutiny_109 ?_
                refine V_cko (fun hm => V_callV_V (c := 1) (As := [.long (Int32.toInt64 v5)]) (rest := []) (d' := 0) hC dX1_mutiny_110 1 (lw_V q768 q770 qs17 q85 q771) (by decide +kernel) (List.mem_singleton.mp hm) (by decide) (by decide) rfl rfl rfl (Nat.le_of_ble_eq_true rfl) (Nat.le_trans (by decide) hd) (by decide) vMP_l (fun _ h => c_X1_tell (Nat.le_refl _) h) (fun σ_7 => ?_))
                refine V_aload_n hC dX1_mutiny_113 rfl ?_
                refine V_iload hC dX1_mutiny_114 rfl ?_
                refine V_i2l hC dX1_mutiny_116 ?_
                refine V_cko (fun hm => V_callV_V (c := 1) (As := [.long (Int32.toInt64 v6)]) (rest := []) (d' := 0) hC dX1_mutiny_117 1 (lw_V q768 q770 qs17 q85 q771) (by decide +kernel) (List.mem_singleton.mp hm) (by decide) (by decide) rfl rfl rfl (Nat.le_of_ble_eq_true rfl) (Nat.le_trans (by decide) hd) (by decide) vMP_l (fun _ h => c_X1_tell (Nat.le_refl _) h) (fun σ_8 => ?_))
                exact hk_2 σ_8
          · refine V_goto (tgt := 123) hC dX1_mutiny_98 (by decide) ?_
            exact hk_1 σ_4 v4_2
theorem w_X1_mutiny_49 {l : Launch} {d n0 s0 : Nat} (hd : 2 ≤ d) (a0 : Nat) (x1 : Int32) (x2 : Int32) (x3 : Int32)  : ∀ (n : Nat) (σ_2 : vMem) (v4 : Int32) (v5 : Int32), V (P_X1_mutiny l d n0 s0) (vEmb eI) σ_2 49 [some (.ref a0), some (.int x1), some (.int x2), some (.int x3), some (.int v4), some (.int v5), none] [] (f_X1_mutiny_49 a0 x1 x2 x3 n σ_2 v4 v5) := by
  have hC : vPx (P_X1_mutiny l d n0 s0) cX1_mutiny 7 "NobodyBeenAft" (some .int) d := vMP_cx
  intro n
  induction n with
  | zero =>
    intro σ_2 v4 v5
    exact V_none
  | succ n ih =>
    intro σ_2 v4 v5
    refine V_eq (f_X1_mutiny_49.eq_2 ..) ?_
    refine V_iload hC dX1_mutiny_49 rfl ?_
    refine V_bipush (v := 9) hC dX1_mutiny_51 rfl ?_
    refine V_iload_n hC dX1_mutiny_53 rfl ?_
    refine V_mmin hC dX1_mutiny_54 q675 q327 q90 q328 (Nat.le_of_ble_eq_true rfl) ?_
    refine V_icmp_gt (tgt := 135) hC dX1_mutiny_57 (by decide) ?_ ?_
    · refine V_iload hC dX1_mutiny_135 rfl ?_
      exact V_ireturn dX1_mutiny_137 rfl rfl
    · refine V_iconst (v := 0) hC dX1_mutiny_60 rfl ?_
      refine V_istore (ls' := [some (.ref a0), some (.int x1), some (.int x2), some (.int x3), some (.int v4), some (.int v5), some (.int 0)]) hC dX1_mutiny_61 (by decide) rfl rfl ?_
      refine V_let (B := fun k => ∀ (σ_3 : vMem), ∀ (v4_1 : Int32), V (P_X1_mutiny l d n0 s0) (vEmb eI) σ_3 129 [some (.ref a0), some (.int x1), some (.int x2), some (.int x3), some (.int v4_1), some (.int v5), none] [] (k σ_3 v4_1)) ?_ ?_
      · intro σ_3 v4_1
        refine V_iincL (v := v5 + 1) (ls' := fun v5_1 => [some (.ref a0), some (.int x1), some (.int x2), some (.int x3), some (.int v4_1), some (.int v5_1), none]) hC dX1_mutiny_129 rfl (by decide) rfl rfl (fun _ => rfl) (fun v5_1 => ?_)
        refine V_goto (tgt := 49) hC dX1_mutiny_132 (by decide) ?_
        exact ih σ_3 v4_1 v5_1
      · intro k hk
        exact (w_X1_mutiny_63 hd a0 x1 x2 x3 v5 k hk) FU σ_2 v4 0
theorem w_X1_mutiny {l : Launch} {d n0 s0 : Nat} (hd : 2 ≤ d) (σ : vMem) (a0 : Nat) (x1 : Int32) (x2 : Int32) (x3 : Int32) : V (P_X1_mutiny l d n0 s0) (vEmb eI) σ 0 [some (.ref a0), some (.int x1), some (.int x2), some (.int x3), none, none, none] [] (f_X1_mutiny σ a0 x1 x2 x3) := by
  have hC : vPx (P_X1_mutiny l d n0 s0) cX1_mutiny 7 "NobodyBeenAft" (some .int) d := vMP_cx
  refine V_eq (f_X1_mutiny.eq_1 ..) ?_
  refine V_iload_n hC dX1_mutiny_0 rfl ?_
  refine V_i2l hC dX1_mutiny_1 ?_
  refine V_lconst (v := 1) hC dX1_mutiny_2 rfl ?_
  refine V_ldc2 hC dX1_mutiny_3 q1167 ?_
  refine V_callS_PI (As := [.long (Int32.toInt64 x1), .long 1, .long 20]) (rest := []) (d' := 0) hC dX1_mutiny_6 3 (lw_S q285 q286 q85 q287) (by decide +kernel) rfl rfl (Nat.le_of_ble_eq_true rfl) (Nat.le_trans (by decide) hd) (by decide) vMP_l (fun _ h => c_X1_in (Nat.le_refl _) h) (fun r => ?_)
  refine V_if_eq (tgt := 36) hC dX1_mutiny_9 (by decide) ?_ ?_
  · refine V_iconst (v := (-1)) hC dX1_mutiny_36 rfl ?_
    exact V_ireturn dX1_mutiny_37 rfl rfl
  · refine V_iload_n hC dX1_mutiny_12 rfl ?_
    refine V_i2l hC dX1_mutiny_13 ?_
    refine V_lconst (v := 1) hC dX1_mutiny_14 rfl ?_
    refine V_ldc2 hC dX1_mutiny_15 q1167 ?_
    refine V_callS_PI (As := [.long (Int32.toInt64 x2), .long 1, .long 20]) (rest := []) (d' := 0) hC dX1_mutiny_18 3 (lw_S q285 q286 q85 q287) (by decide +kernel) rfl rfl (Nat.le_of_ble_eq_true rfl) (Nat.le_trans (by decide) hd) (by decide) vMP_l (fun _ h => c_X1_in (Nat.le_refl _) h) (fun r_1 => ?_)
    refine V_if_eq (tgt := 36) hC dX1_mutiny_21 (by decide) ?_ ?_
    · refine V_iconst (v := (-1)) hC dX1_mutiny_36 rfl ?_
      exact V_ireturn dX1_mutiny_37 rfl rfl
    · refine V_iload_n hC dX1_mutiny_24 rfl ?_
      refine V_i2l hC dX1_mutiny_25 ?_
      refine V_lconst (v := 1) hC dX1_mutiny_26 rfl ?_
      refine V_ldc2 hC dX1_mutiny_27 q1168 ?_
      refine V_callS_PI (As := [.long (Int32.toInt64 x3), .long 1, .long 18]) (rest := []) (d' := 0) hC dX1_mutiny_30 3 (lw_S q285 q286 q85 q287) (by decide +kernel) rfl rfl (Nat.le_of_ble_eq_true rfl) (Nat.le_trans (by decide) hd) (by decide) vMP_l (fun _ h => c_X1_in (Nat.le_refl _) h) (fun r_2 => ?_)
      refine V_if_ne (tgt := 38) hC dX1_mutiny_33 (by decide) ?_ ?_
      · refine V_iconst (v := 0) hC dX1_mutiny_38 rfl ?_
        refine V_istore (ls' := [some (.ref a0), some (.int x1), some (.int x2), some (.int x3), some (.int 0), none, none]) hC dX1_mutiny_39 (by decide) rfl rfl ?_
        refine V_aload_n hC dX1_mutiny_41 rfl ?_
        refine V_iconst (v := 0) hC dX1_mutiny_42 rfl ?_
        refine p_X1_84 hC dX1_mutiny_43 (fun σ_1 => ?_)
        refine V_iconst (v := 0) hC dX1_mutiny_46 rfl ?_
        refine V_istore (ls' := [some (.ref a0), some (.int x1), some (.int x2), some (.int x3), some (.int 0), some (.int 0), none]) hC dX1_mutiny_47 (by decide) rfl rfl ?_
        exact (w_X1_mutiny_49 hd a0 x1 x2 x3) FU σ_1 0 0
      · refine V_iconst (v := (-1)) hC dX1_mutiny_36 rfl ?_
        exact V_ireturn dX1_mutiny_37 rfl rfl
theorem c_X1_mutiny {l : Launch} {d : Nat} (hd : 2 ≤ d) {σ : vMem} {a0 : Nat} {x1 : Int32} {x2 : Int32} {x3 : Int32} {r : Int32 × vMem} (h : f_X1_mutiny σ a0 x1 x2 x3 = some r) : vOk l yX1_mutiny cX1_mutiny 7 (some .int) d [.ref a0, .int x1, .int x2, .int x3] σ (.inl ((eI).1 r, (eI).2 r)) := V_method (em := eI) [some (.ref a0), some (.int x1), some (.int x2), some (.int x3), none, none, none] (by decide +kernel) rfl (Nat.le_of_ble_eq_true rfl) (w_X1_mutiny hd σ a0 x1 x2 x3) h
/-! NobodyBeenAft.chance(III)I -/
def f_X1_chance (σ : vMem) (a0 : Nat) (x1 : Int32) (x2 : Int32) (x3 : Int32) : Option (Int32 × vMem) := bp (f_X1_in σ (Int32.toInt64 x1) 1 12) (fun r => if r = 0 then (some ((-1), σ)) else bp (f_X1_in σ (Int32.toInt64 x2) 0 10) (fun r_1 => if r_1 = 0 then (some ((-1), σ)) else bp (f_X1_in σ (Int32.toInt64 x3) 0 12) (fun r_2 => if ¬ r_2 = 0 then (cko σ a0 [1] (vl (si σ a0 18 0) (fun σ_1 => cko σ_1 a0 [1] (bd (f_X1_delay σ_1 a0) (fun r_3 σ_2 => if x3 < r_3 then (bp (f_X1_power σ_2 (10 - (Int32.toInt64 x2)) x1) (fun r_4 => bp (f_X1_power σ_2 10 x1) (fun r_5 => cko σ_2 a0 [1] (bv (f_X1_tellPart σ_2 a0 r_4 r_5) (fun σ_3 => some (0, σ_3)))))) else cko σ_2 a0 [1] (bv (f_X1_tellPart σ_2 a0 1 1) (fun σ_4 => some (0, σ_4)))))))) else some ((-1), σ))))
abbrev P_X1_chance (l : Launch) (d n0 s0 : Nat) : vX → Prop := vMP l yX1_chance cX1_chance 4 (some .int) d n0 s0
theorem w_X1_chance {l : Launch} {d n0 s0 : Nat} (hd : 611 ≤ d) (h0 : l.stackTraces = false) (σ : vMem) (a0 : Nat) (x1 : Int32) (x2 : Int32) (x3 : Int32) : V (P_X1_chance l d n0 s0) (vEmb eI) σ 0 [some (.ref a0), some (.int x1), some (.int x2), some (.int x3)] [] (f_X1_chance σ a0 x1 x2 x3) := by
  have hC : vPx (P_X1_chance l d n0 s0) cX1_chance 4 "NobodyBeenAft" (some .int) d := vMP_cx
  refine V_eq (f_X1_chance.eq_1 ..) ?_
  refine V_iload_n hC dX1_chance_0 rfl ?_
  refine V_i2l hC dX1_chance_1 ?_
  refine V_lconst (v := 1) hC dX1_chance_2 rfl ?_
  refine V_ldc2 hC dX1_chance_3 q1029 ?_
  refine V_callS_PI (As := [.long (Int32.toInt64 x1), .long 1, .long 12]) (rest := []) (d' := 0) hC dX1_chance_6 3 (lw_S q285 q286 q85 q287) (by decide +kernel) rfl rfl (Nat.le_of_ble_eq_true rfl) (Nat.le_trans (by decide) hd) (by decide) vMP_l (fun _ h => c_X1_in (Nat.le_refl _) h) (fun r => ?_)
  refine V_if_eq (tgt := 36) hC dX1_chance_9 (by decide) ?_ ?_
  · refine V_iconst (v := (-1)) hC dX1_chance_36 rfl ?_
    exact V_ireturn dX1_chance_37 rfl rfl
  · refine V_iload_n hC dX1_chance_12 rfl ?_
    refine V_i2l hC dX1_chance_13 ?_
    refine V_lconst (v := 0) hC dX1_chance_14 rfl ?_
    refine V_ldc2 hC dX1_chance_15 q1035 ?_
    refine V_callS_PI (As := [.long (Int32.toInt64 x2), .long 0, .long 10]) (rest := []) (d' := 0) hC dX1_chance_18 3 (lw_S q285 q286 q85 q287) (by decide +kernel) rfl rfl (Nat.le_of_ble_eq_true rfl) (Nat.le_trans (by decide) hd) (by decide) vMP_l (fun _ h => c_X1_in (Nat.le_refl _) h) (fun r_1 => ?_)
    refine V_if_eq (tgt := 36) hC dX1_chance_21 (by decide) ?_ ?_
    · refine V_iconst (v := (-1)) hC dX1_chance_36 rfl ?_
      exact V_ireturn dX1_chance_37 rfl rfl
    · refine V_iload_n hC dX1_chance_24 rfl ?_
      refine V_i2l hC dX1_chance_25 ?_
      refine V_lconst (v := 0) hC dX1_chance_26 rfl ?_
      refine V_ldc2 hC dX1_chance_27 q1029 ?_
      refine V_callS_PI (As := [.long (Int32.toInt64 x3), .long 0, .long 12]) (rest := []) (d' := 0) hC dX1_chance_30 3 (lw_S q285 q286 q85 q287) (by decide +kernel) rfl rfl (Nat.le_of_ble_eq_true rfl) (Nat.le_trans (by decide) hd) (by decide) vMP_l (fun _ h => c_X1_in (Nat.le_refl _) h) (fun r_2 => ?_)
      refine V_if_ne (tgt := 38) hC dX1_chance_33 (by decide) ?_ ?_
      · refine V_aload_n hC dX1_chance_38 rfl ?_
        refine V_iconst (v := 0) hC dX1_chance_39 rfl ?_
        refine p_X1_84 hC dX1_chance_40 (fun σ_1 => ?_)
        refine V_iload_n hC dX1_chance_43 rfl ?_
        refine V_aload_n hC dX1_chance_44 rfl ?_
        refine V_cko (fun hm => V_callV_I (c := 1) (As := []) (rest := [.int x3]) (d' := 610) hC dX1_chance_45 0 (lw_V q1030 q681 q682 q85 q683) (by decide +kernel) (List.mem_singleton.mp hm) (by decide) (by decide) rfl rfl rfl (Nat.le_of_ble_eq_true rfl) (Nat.le_trans (by decide) hd) (by decide) vMP_l (fun _ h => c_X1_delay (Nat.le_refl _) h0 h) (fun r_3 σ_2 => ?_))
        refine V_icmp_lt (tgt := 60) hC dX1_chance_48 (by decide) ?_ ?_
        · refine V_aload_n hC dX1_chance_60 rfl ?_
          refine V_ldc2 hC dX1_chance_61 q1035 ?_
          refine V_iload_n hC dX1_chance_64 rfl ?_
          refine V_i2l hC dX1_chance_65 ?_
          refine V_lsub hC dX1_chance_66 ?_
          refine V_iload_n hC dX1_chance_67 rfl ?_
          refine V_callS_PL (As := [.long (10 - (Int32.toInt64 x2)), .int x1]) (rest := [.ref a0]) (d' := 0) hC dX1_chance_68 2 (lw_S q1052 q1053 q85 q1054) (by decide +kernel) rfl rfl (Nat.le_of_ble_eq_true rfl) (Nat.le_trans (by decide) hd) (by decide) vMP_l (fun _ h => c_X1_power (Nat.le_refl _) h) (fun r_4 => ?_)
          refine V_ldc2 hC dX1_chance_71 q1035 ?_
          refine V_iload_n hC dX1_chance_74 rfl ?_
          refine V_callS_PL (As := [.long 10, .int x1]) (rest := [.long r_4, .ref a0]) (d' := 0) hC dX1_chance_75 2 (lw_S q1052 q1053 q85 q1054) (by decide +kernel) rfl rfl (Nat.le_of_ble_eq_true rfl) (Nat.le_trans (by decide) hd) (by decide) vMP_l (fun _ h => c_X1_power (Nat.le_refl _) h) (fun r_5 => ?_)
          refine V_cko (fun hm => V_callV_V (c := 1) (As := [.long r_4, .long r_5]) (rest := []) (d' := 101) hC dX1_chance_78 2 (lw_V q1055 q1057 qs21 q85 q1058) (by decide +kernel) (List.mem_singleton.mp hm) (by decide) (by decide) rfl rfl rfl (Nat.le_of_ble_eq_true rfl) (Nat.le_trans (by decide) hd) (by decide) vMP_l (fun _ h => c_X1_tellPart (Nat.le_refl _) h) (fun σ_3 => ?_))
          refine V_iconst (v := 0) hC dX1_chance_81 rfl ?_
          exact V_ireturn dX1_chance_82 rfl rfl
        · refine V_aload_n hC dX1_chance_51 rfl ?_
          refine V_lconst (v := 1) hC dX1_chance_52 rfl ?_
          refine V_lconst (v := 1) hC dX1_chance_53 rfl ?_
          refine V_cko (fun hm => V_callV_V (c := 1) (As := [.long 1, .long 1]) (rest := []) (d' := 101) hC dX1_chance_54 2 (lw_V q1055 q1057 qs21 q85 q1058) (by decide +kernel) (List.mem_singleton.mp hm) (by decide) (by decide) rfl rfl rfl (Nat.le_of_ble_eq_true rfl) (Nat.le_trans (by decide) hd) (by decide) vMP_l (fun _ h => c_X1_tellPart (Nat.le_refl _) h) (fun σ_4 => ?_))
          refine V_goto (tgt := 81) hC dX1_chance_57 (by decide) ?_
          refine V_iconst (v := 0) hC dX1_chance_81 rfl ?_
          exact V_ireturn dX1_chance_82 rfl rfl
      · refine V_iconst (v := (-1)) hC dX1_chance_36 rfl ?_
        exact V_ireturn dX1_chance_37 rfl rfl
theorem c_X1_chance {l : Launch} {d : Nat} (hd : 611 ≤ d) (h0 : l.stackTraces = false) {σ : vMem} {a0 : Nat} {x1 : Int32} {x2 : Int32} {x3 : Int32} {r : Int32 × vMem} (h : f_X1_chance σ a0 x1 x2 x3 = some r) : vOk l yX1_chance cX1_chance 4 (some .int) d [.ref a0, .int x1, .int x2, .int x3] σ (.inl ((eI).1 r, (eI).2 r)) := V_method (em := eI) [some (.ref a0), some (.int x1), some (.int x2), some (.int x3)] (by decide +kernel) rfl (Nat.le_of_ble_eq_true rfl) (w_X1_chance hd h0 σ a0 x1 x2 x3) h
/-! NobodyBeenAft.voyages(II)I -/
def f_X1_voyages_33 (a0 : Nat) (x2 : Int32) (k : vMem → Int32 → Option (Int32 × vMem)) : Nat → vMem → Int32 → Int32 → Int32 → Option (Int32 × vMem)
  | 0, _, _, _, _ => none
  | n + 1, σ_6, v3, v4_1, v5 => if x2 ≤ v5 then (k σ_6 v4_1) else vl ((v3 * 1103515245) + 12345) (fun v3_1 => vl (((Int32.toUInt32 v3_1 >>> (Int32.toUInt32 16 &&& Int32.toUInt32 31)).toInt32) - (((Int32.toUInt32 v3_1 >>> (Int32.toUInt32 16 &&& Int32.toUInt32 31)).toInt32) / 4) * 4) (fun v6 => vl (fun (σ_7 : vMem) (v4_2 : Int32) => cko σ_7 a0 [1] (dr (gr σ_7 a0 2) (fun b_5 => cko σ_7 a0 [1] (bv (f_X1_goStep σ_7 a0 b_5) (fun σ_8 => vl (v5 + 1) (fun v5_1 => f_X1_voyages_33 a0 x2 k n σ_8 v3_1 v4_2 v5_1)))))) (fun k_1 => if 2 ≤ v6 then (k_1 σ_6 v4_1) else cko σ_6 a0 [1] (dr (gr σ_6 a0 2) (fun b_6 => bp (f_X1_refusesOrder σ_6 b_6) (fun r_1 => if ¬ r_1 = 0 then (k_1 σ_6 v4_1) else cko σ_6 a0 [1] (dr (gr σ_6 a0 2) (fun b_7 => vl (fun (y : Int32) => cko σ_6 a0 [1] (bd (f_X1_orders σ_6 a0 b_7 y) (fun r_2 σ_9 => vl (v4_1 + 1) (fun v4_3 => k_1 σ_9 v4_3)))) (fun k_2 => if ¬ v6 = 0 then (k_2 1) else k_2 (-1))))))))))
def f_X1_voyages (σ : vMem) (a0 : Nat) (x1 : Int32) (x2 : Int32) : Option (Int32 × vMem) := bp (f_X1_in σ (Int32.toInt64 x2) 1 60) (fun r => if ¬ r = 0 then (cko σ a0 [1] (dr (gr σ a0 2) (fun b => cko σ a0 [1] (dr (gr σ a0 0) (fun b_1 => cko σ b [2] (bv (f_X2_be σ b b_1) (fun σ_1 => vl (fun (σ_2 : vMem) (v4 : Int32) => cko σ_2 a0 [1] (vl (si σ_2 a0 18 0) (fun σ_3 => cko σ_3 a0 [1] (dr (gr σ_3 a0 2) (fun b_2 => cko σ_3 b_2 [2] (cko σ_3 a0 [1] (bv (f_X1_tell σ_3 a0 (Int32.toInt64 (gi σ_3 b_2 5))) (fun σ_4 => cko σ_4 a0 [1] (bv (f_X1_tell σ_4 a0 (Int32.toInt64 v4)) (fun σ_5 => cko σ_5 a0 [1] (dr (gr σ_5 a0 2) (fun b_3 => cko σ_5 b_3 [2] (cko σ_5 a0 [1] (dr (gr σ_5 a0 0) (fun b_4 => cko σ_5 b_4 [2] (some (((gi σ_5 b_3 6) - (gi σ_5 b_4 6)), σ_5))))))))))))))))) (fun k => f_X1_voyages_33 a0 x2 k FU σ_1 x1 0 0)))))))) else some ((-1), σ))
abbrev P_X1_voyages (l : Launch) (d n0 s0 : Nat) : vX → Prop := vMP l yX1_voyages cX1_voyages 7 (some .int) d n0 s0
theorem w_X1_voyages_33 {l : Launch} {d n0 s0 : Nat} (hd : 611 ≤ d) (h0 : l.stackTraces = false) (a0 : Nat) (x2 : Int32) (k : vMem → Int32 → Option (Int32 × vMem)) (hk : ∀ (σ_2 : vMem), ∀ (v4 : Int32), V (P_X1_voyages l d n0 s0) (vEmb eI) σ_2 109 [some (.ref a0), none, none, none, some (.int v4), none, none] [] (k σ_2 v4)) : ∀ (n : Nat) (σ_6 : vMem) (v3 : Int32) (v4_1 : Int32) (v5 : Int32), V (P_X1_voyages l d n0 s0) (vEmb eI) σ_6 33 [some (.ref a0), none, some (.int x2), some (.int v3), some (.int v4_1), some (.int v5), none] [] (f_X1_voyages_33 a0 x2 k n σ_6 v3 v4_1 v5) := by
  have hC : vPx (P_X1_voyages l d n0 s0) cX1_voyages 7 "NobodyBeenAft" (some .int) d := vMP_cx
  intro n
  induction n with
  | zero =>
    intro σ_6 v3 v4_1 v5
    exact V_none
  | succ n ih =>
    intro σ_6 v3 v4_1 v5
    refine V_eq (f_X1_voyages_33.eq_2 ..) ?_
    refine V_iload hC dX1_voyages_33 rfl ?_
    refine V_iload_n hC dX1_voyages_35 rfl ?_
    refine V_icmp_ge (tgt := 109) hC dX1_voyages_36 (by decide) ?_ ?_
    · refine V_clr [2, 3, 5] (ls' := [some (.ref a0), none, none, none, some (.int v4_1), none, none]) rfl ?_
      exact hk σ_6 v4_1
    · refine V_iload_n hC dX1_voyages_39 rfl ?_
      refine V_ldcw hC dX1_voyages_40 q1183 ?_
      refine V_imul hC dX1_voyages_43 ?_
      refine V_sipush (v := 12345) hC dX1_voyages_44 rfl ?_
      refine V_iadd hC dX1_voyages_47 ?_
      refine V_istore_nL (ls' := fun v3_1 => [some (.ref a0), none, some (.int x2), some (.int v3_1), some (.int v4_1), some (.int v5), none]) hC dX1_voyages_48 (by decide) rfl (fun _ => rfl) (fun v3_1 => ?_)
      refine V_iload_n hC dX1_voyages_49 rfl ?_
      refine V_bipush (v := 16) hC dX1_voyages_50 rfl ?_
      refine V_iushr hC dX1_voyages_52 ?_
      refine V_iconst (v := 4) hC dX1_voyages_53 rfl ?_
      refine V_irem hC dX1_voyages_54 (by decide) ?_
      refine V_istoreL (ls' := fun v6 => [some (.ref a0), none, some (.int x2), some (.int v3_1), some (.int v4_1), some (.int v5), some (.int v6)]) hC dX1_voyages_55 (by decide) rfl (fun _ => rfl) (fun v6 => ?_)
      refine V_iload hC dX1_voyages_57 rfl ?_
      refine V_iconst (v := 2) hC dX1_voyages_59 rfl ?_
      refine V_let (B := fun k_1 => ∀ (σ_7 : vMem), ∀ (v4_2 : Int32), V (P_X1_voyages l d n0 s0) (vEmb eI) σ_7 95 [some (.ref a0), none, some (.int x2), some (.int v3_1), some (.int v4_2), some (.int v5), none] [] (k_1 σ_7 v4_2)) ?_ ?_
      · intro σ_7 v4_2
        refine V_aload_n hC dX1_voyages_95 rfl ?_
        refine V_aload_n hC dX1_voyages_96 rfl ?_
        refine g_X1_28 hC dX1_voyages_97 (fun b_5 => ?_)
        refine V_cko (fun hm => V_callV_V (c := 1) (As := [.ref b_5]) (rest := []) (d' := 2) hC dX1_voyages_100 1 (lw_V q753 q755 qs15 q85 q756) (by decide +kernel) (List.mem_singleton.mp hm) (by decide) (by decide) rfl rfl rfl (Nat.le_of_ble_eq_true rfl) (Nat.le_trans (by decide) hd) (by decide) vMP_l (fun _ h => c_X1_goStep (Nat.le_refl _) h) (fun σ_8 => ?_))
        refine V_iincL (v := v5 + 1) (ls' := fun v5_1 => [some (.ref a0), none, some (.int x2), some (.int v3_1), some (.int v4_2), some (.int v5_1), none]) hC dX1_voyages_103 rfl (by decide) rfl rfl (fun _ => rfl) (fun v5_1 => ?_)
        refine V_goto (tgt := 33) hC dX1_voyages_106 (by decide) ?_
        exact ih σ_8 v3_1 v4_2 v5_1
      · intro k_1 hk_1
        refine V_icmp_ge (tgt := 95) hC dX1_voyages_60 (by decide) ?_ ?_
        · refine V_clr [6] (ls' := [some (.ref a0), none, some (.int x2), some (.int v3_1), some (.int v4_1), some (.int v5), none]) rfl ?_
          exact hk_1 σ_6 v4_1
        · refine V_aload_n hC dX1_voyages_63 rfl ?_
          refine g_X1_28 hC dX1_voyages_64 (fun b_6 => ?_)
          refine V_callS_PI (As := [.ref b_6]) (rest := []) (d' := 0) hC dX1_voyages_67 1 (lw_S q698 q699 q85 q700) (by decide +kernel) rfl rfl (Nat.le_of_ble_eq_true rfl) (Nat.le_trans (by decide) hd) (by decide) vMP_l (fun _ h => c_X1_refusesOrder (Nat.le_refl _) h) (fun r_1 => ?_)
          refine V_if_ne (tgt := 95) hC dX1_voyages_70 (by decide) ?_ ?_
          · refine V_clr [6] (ls' := [some (.ref a0), none, some (.int x2), some (.int v3_1), some (.int v4_1), some (.int v5), none]) rfl ?_
            exact hk_1 σ_6 v4_1
          · refine V_aload_n hC dX1_voyages_73 rfl ?_
            refine V_aload_n hC dX1_voyages_74 rfl ?_
            refine g_X1_28 hC dX1_voyages_75 (fun b_7 => ?_)
            refine V_iload hC dX1_voyages_78 rfl ?_
            refine V_let (B := fun k_2 => ∀ (y : Int32), V (P_X1_voyages l d n0 s0) (vEmb eI) σ_6 88 [some (.ref a0), none, some (.int x2), some (.int v3_1), some (.int v4_1), some (.int v5), none] [.int y, .ref b_7, .ref a0] (k_2 y)) ?_ ?_
            · intro y
              refine V_cko (fun hm => V_callV_I (c := 1) (As := [.ref b_7, .int y]) (rest := []) (d' := 610) hC dX1_voyages_88 2 (lw_V q710 q712 qs9 q85 q713) (by decide +kernel) (List.mem_singleton.mp hm) (by decide) (by decide) rfl rfl rfl (Nat.le_of_ble_eq_true rfl) (Nat.le_trans (by decide) hd) (by decide) vMP_l (fun _ h => c_X1_orders (Nat.le_refl _) h0 h) (fun r_2 σ_9 => ?_))
              refine V_pop hC dX1_voyages_91 rfl ?_
              refine V_iincL (v := v4_1 + 1) (ls' := fun v4_3 => [some (.ref a0), none, some (.int x2), some (.int v3_1), some (.int v4_3), some (.int v5), none]) hC dX1_voyages_92 rfl (by decide) rfl rfl (fun _ => rfl) (fun v4_3 => ?_)
              exact hk_1 σ_9 v4_3
            · intro k_2 hk_2
              refine V_if_ne (tgt := 87) hC dX1_voyages_80 (by decide) ?_ ?_
              · refine V_iconst (v := 1) hC dX1_voyages_87 rfl ?_
                refine V_clr [6] (ls' := [some (.ref a0), none, some (.int x2), some (.int v3_1), some (.int v4_1), some (.int v5), none]) rfl ?_
                exact hk_2 1
              · refine V_iconst (v := (-1)) hC dX1_voyages_83 rfl ?_
                refine V_goto (tgt := 88) hC dX1_voyages_84 (by decide) ?_
                refine V_clr [6] (ls' := [some (.ref a0), none, some (.int x2), some (.int v3_1), some (.int v4_1), some (.int v5), none]) rfl ?_
                exact hk_2 (-1)
theorem w_X1_voyages {l : Launch} {d n0 s0 : Nat} (hd : 611 ≤ d) (h0 : l.stackTraces = false) (σ : vMem) (a0 : Nat) (x1 : Int32) (x2 : Int32) : V (P_X1_voyages l d n0 s0) (vEmb eI) σ 0 [some (.ref a0), some (.int x1), some (.int x2), none, none, none, none] [] (f_X1_voyages σ a0 x1 x2) := by
  have hC : vPx (P_X1_voyages l d n0 s0) cX1_voyages 7 "NobodyBeenAft" (some .int) d := vMP_cx
  refine V_eq (f_X1_voyages.eq_1 ..) ?_
  refine V_iload_n hC dX1_voyages_0 rfl ?_
  refine V_i2l hC dX1_voyages_1 ?_
  refine V_lconst (v := 1) hC dX1_voyages_2 rfl ?_
  refine V_ldc2 hC dX1_voyages_3 q748 ?_
  refine V_callS_PI (As := [.long (Int32.toInt64 x2), .long 1, .long 60]) (rest := []) (d' := 0) hC dX1_voyages_6 3 (lw_S q285 q286 q85 q287) (by decide +kernel) rfl rfl (Nat.le_of_ble_eq_true rfl) (Nat.le_trans (by decide) hd) (by decide) vMP_l (fun _ h => c_X1_in (Nat.le_refl _) h) (fun r => ?_)
  refine V_if_ne (tgt := 14) hC dX1_voyages_9 (by decide) ?_ ?_
  · refine V_iload_n hC dX1_voyages_14 rfl ?_
    refine V_istore_n (ls' := [some (.ref a0), some (.int x1), some (.int x2), some (.int x1), none, none, none]) hC dX1_voyages_15 (by decide) rfl rfl ?_
    refine V_iconst (v := 0) hC dX1_voyages_16 rfl ?_
    refine V_istore (ls' := [some (.ref a0), some (.int x1), some (.int x2), some (.int x1), some (.int 0), none, none]) hC dX1_voyages_17 (by decide) rfl rfl ?_
    refine V_aload_n hC dX1_voyages_19 rfl ?_
    refine g_X1_28 hC dX1_voyages_20 (fun b => ?_)
    refine V_aload_n hC dX1_voyages_23 rfl ?_
    refine g_X1_21 hC dX1_voyages_24 (fun b_1 => ?_)
    refine V_cko (fun hm => V_callV_V (c := 2) (As := [.ref b_1]) (rest := []) (d' := 0) hC dX1_voyages_27 1 (lw_V q705 q706 q707 q86 q708) (by decide +kernel) (List.mem_singleton.mp hm) (by decide) (by decide) rfl rfl rfl (Nat.le_of_ble_eq_true rfl) (Nat.le_trans (by decide) hd) (by decide) vMP_l (fun _ h => c_X2_be (Nat.le_refl _) h) (fun σ_1 => ?_))
    refine V_iconst (v := 0) hC dX1_voyages_30 rfl ?_
    refine V_istore (ls' := [some (.ref a0), some (.int x1), some (.int x2), some (.int x1), some (.int 0), some (.int 0), none]) hC dX1_voyages_31 (by decide) rfl rfl ?_
    refine V_let (B := fun k => ∀ (σ_2 : vMem), ∀ (v4 : Int32), V (P_X1_voyages l d n0 s0) (vEmb eI) σ_2 109 [some (.ref a0), none, none, none, some (.int v4), none, none] [] (k σ_2 v4)) ?_ ?_
    · intro σ_2 v4
      refine V_aload_n hC dX1_voyages_109 rfl ?_
      refine V_iconst (v := 0) hC dX1_voyages_110 rfl ?_
      refine p_X1_84 hC dX1_voyages_111 (fun σ_3 => ?_)
      refine V_aload_n hC dX1_voyages_114 rfl ?_
      refine V_aload_n hC dX1_voyages_115 rfl ?_
      refine g_X1_28 hC dX1_voyages_116 (fun b_2 => ?_)
      refine g_X1_280 hC dX1_voyages_119 ?_
      refine V_i2l hC dX1_voyages_122 ?_
      refine V_cko (fun hm => V_callV_V (c := 1) (As := [.long (Int32.toInt64 (gi σ_3 b_2 5))]) (rest := []) (d' := 0) hC dX1_voyages_123 1 (lw_V q768 q770 qs17 q85 q771) (by decide +kernel) (List.mem_singleton.mp hm) (by decide) (by decide) rfl rfl rfl (Nat.le_of_ble_eq_true rfl) (Nat.le_trans (by decide) hd) (by decide) vMP_l (fun _ h => c_X1_tell (Nat.le_refl _) h) (fun σ_4 => ?_))
      refine V_aload_n hC dX1_voyages_126 rfl ?_
      refine V_iload hC dX1_voyages_127 rfl ?_
      refine V_i2l hC dX1_voyages_129 ?_
      refine V_cko (fun hm => V_callV_V (c := 1) (As := [.long (Int32.toInt64 v4)]) (rest := []) (d' := 0) hC dX1_voyages_130 1 (lw_V q768 q770 qs17 q85 q771) (by decide +kernel) (List.mem_singleton.mp hm) (by decide) (by decide) rfl rfl rfl (Nat.le_of_ble_eq_true rfl) (Nat.le_trans (by decide) hd) (by decide) vMP_l (fun _ h => c_X1_tell (Nat.le_refl _) h) (fun σ_5 => ?_))
      refine V_aload_n hC dX1_voyages_133 rfl ?_
      refine g_X1_28 hC dX1_voyages_134 (fun b_3 => ?_)
      refine g_X1_277 hC dX1_voyages_137 ?_
      refine V_aload_n hC dX1_voyages_140 rfl ?_
      refine g_X1_21 hC dX1_voyages_141 (fun b_4 => ?_)
      refine g_X1_277 hC dX1_voyages_144 ?_
      refine V_isub hC dX1_voyages_147 ?_
      exact V_ireturn dX1_voyages_148 rfl rfl
    · intro k hk
      refine V_clr [1] (ls' := [some (.ref a0), none, some (.int x2), some (.int x1), some (.int 0), some (.int 0), none]) rfl ?_
      exact (w_X1_voyages_33 hd h0 a0 x2 k hk) FU σ_1 x1 0 0
  · refine V_iconst (v := (-1)) hC dX1_voyages_12 rfl ?_
    exact V_ireturn dX1_voyages_13 rfl rfl
theorem c_X1_voyages {l : Launch} {d : Nat} (hd : 611 ≤ d) (h0 : l.stackTraces = false) {σ : vMem} {a0 : Nat} {x1 : Int32} {x2 : Int32} {r : Int32 × vMem} (h : f_X1_voyages σ a0 x1 x2 = some r) : vOk l yX1_voyages cX1_voyages 7 (some .int) d [.ref a0, .int x1, .int x2] σ (.inl ((eI).1 r, (eI).2 r)) := V_method (em := eI) [some (.ref a0), some (.int x1), some (.int x2), none, none, none, none] (by decide +kernel) rfl (Nat.le_of_ble_eq_true rfl) (w_X1_voyages hd h0 σ a0 x1 x2) h
/-! NobodyBeenAft$Page.<init>(LNobodyBeenAft;)V -/
def f_X16_init (σ : vMem) (a0 : Nat) (a1 : Nat) : Option (vMem) := cko σ a0 [16] (vl (sr σ a0 2 (some a1)) (fun σ_1 => nw σ_1 2 9 (fun b σ_2 => bv (f_X2_init σ_2 b) (fun σ_3 => cko σ_3 a0 [16] (vl (sr σ_3 a0 0 (some b)) (fun σ_4 => cko σ_4 a0 [16] (dr (gr σ_4 a0 2) (fun b_1 => cko σ_4 b_1 [1] (cko σ_4 a0 [16] (vl (si σ_4 a0 1 (gi σ_4 b_1 13)) (fun σ_5 => cko σ_5 a0 [16] (dr (gr σ_5 a0 0) (fun b_2 => cko σ_5 a1 [1] (dr (gr σ_5 a1 0) (fun b_3 => cko σ_5 b_2 [2] (bv (f_X2_be σ_5 b_2 b_3) (fun σ_6 => some σ_6)))))))))))))))))
abbrev P_X16_init (l : Launch) (d n0 s0 : Nat) : vX → Prop := vMP l yX16_init cX16_init 2 none d n0 s0
theorem w_X16_init {l : Launch} {d n0 s0 : Nat} (hd : 1 ≤ d) (σ : vMem) (a0 : Nat) (a1 : Nat) : V (P_X16_init l d n0 s0) (vEmb eV) σ 0 [some (.ref a0), some (.ref a1)] [] (f_X16_init σ a0 a1) := by
  have hC : vPx (P_X16_init l d n0 s0) cX16_init 2 "NobodyBeenAft$Page" none d := vMP_cx
  refine V_eq (f_X16_init.eq_1 ..) ?_
  refine V_aload_n hC dX16_init_0 rfl ?_
  refine V_aload_n hC dX16_init_1 rfl ?_
  refine p_X16_1 hC dX16_init_2 (fun X hX => (vMP_n X hX).trans rfl) (fun σ_1 => ?_)
  refine V_aload_n hC dX16_init_5 rfl ?_
  refine V_objInit hC dX16_init_6 q1192 q120 q121 (Nat.le_of_ble_eq_true rfl) ?_
  refine V_aload_n hC dX16_init_9 rfl ?_
  refine V_new (c := 2) hC dX16_init_10 q1193 q123 q86 rfl (by decide) in_X2 tyX2 tyX2_ok (by decide +kernel) (fun b σ_2 => ?_)
  refine V_dup hC dX16_init_13 rfl ?_
  refine V_callIN_V (As := []) (rest := [.ref b, .ref a0]) (d' := 0) hC dX16_init_14 0 q126 q86 q1194 q125 rfl rfl (by decide +kernel) rfl rfl (Nat.le_of_ble_eq_true rfl) (Nat.le_trans (by decide) hd) (by decide) vMP_l (fun _ h => c_X2_init (Nat.le_refl _) h) (fun σ_3 => ?_)
  refine p_X16_16 hC dX16_init_17 (fun X hX => (vMP_n X hX).trans rfl) (fun σ_4 => ?_)
  refine V_aload_n hC dX16_init_20 rfl ?_
  refine V_aload_n hC dX16_init_21 rfl ?_
  refine g_X16_1 hC dX16_init_22 (fun b_1 => ?_)
  refine g_X16_20 hC dX16_init_25 ?_
  refine p_X16_26 hC dX16_init_28 (fun X hX => (vMP_n X hX).trans rfl) (fun σ_5 => ?_)
  refine V_aload_n hC dX16_init_31 rfl ?_
  refine g_X16_16 hC dX16_init_32 (fun b_2 => ?_)
  refine V_aload_n hC dX16_init_35 rfl ?_
  refine g_X16_29 hC dX16_init_36 (fun b_3 => ?_)
  refine V_cko (fun hm => V_callV_V (c := 2) (As := [.ref b_3]) (rest := []) (d' := 0) hC dX16_init_39 1 (lw_V q1195 q706 q707 q86 q708) (by decide +kernel) (List.mem_singleton.mp hm) (by decide) (by decide) rfl rfl rfl (Nat.le_of_ble_eq_true rfl) (Nat.le_trans (by decide) hd) (by decide) vMP_l (fun _ h => c_X2_be (Nat.le_refl _) h) (fun σ_6 => ?_))
  exact V_return dX16_init_42 rfl rfl
theorem c_X16_init {l : Launch} {d : Nat} (hd : 1 ≤ d) {σ : vMem} {a0 : Nat} {a1 : Nat} {r : vMem} (h : f_X16_init σ a0 a1 = some r) : vOk l yX16_init cX16_init 2 none d [.ref a0, .ref a1] σ (.inl ((eV).1 r, (eV).2 r)) := V_method (em := eV) [some (.ref a0), some (.ref a1)] (by decide +kernel) rfl (Nat.le_of_ble_eq_true rfl) (w_X16_init hd σ a0 a1) h
/-! NobodyBeenAft.keep(I)Z -/
def f_X1_keep (σ : vMem) (a0 : Nat) (x1 : Int32) : Option (Int32 × vMem) := bp (f_X1_in σ (Int32.toInt64 x1) 0 2) (fun r => if ¬ r = 0 then (cko σ a0 [1] (dr (gr σ a0 27) (fun b => nw σ 16 3 (fun b_1 σ_1 => bv (f_X16_init σ_1 b_1 a0) (fun σ_2 => cko σ_2 b_1 [16] (cka σ_2 b 111 x1 (vl (sr σ_2 b (Int32.toNatClampNeg x1) (some b_1)) (fun σ_3 => some (1, σ_3))))))))) else some (0, σ))
abbrev P_X1_keep (l : Launch) (d n0 s0 : Nat) : vX → Prop := vMP l yX1_keep cX1_keep 2 (some .boolean) d n0 s0
theorem w_X1_keep {l : Launch} {d n0 s0 : Nat} (hd : 2 ≤ d) (σ : vMem) (a0 : Nat) (x1 : Int32) : V (P_X1_keep l d n0 s0) (vEmb eI) σ 0 [some (.ref a0), some (.int x1)] [] (f_X1_keep σ a0 x1) := by
  have hC : vPx (P_X1_keep l d n0 s0) cX1_keep 2 "NobodyBeenAft" (some .boolean) d := vMP_cx
  refine V_eq (f_X1_keep.eq_1 ..) ?_
  refine V_iload_n hC dX1_keep_0 rfl ?_
  refine V_i2l hC dX1_keep_1 ?_
  refine V_lconst (v := 0) hC dX1_keep_2 rfl ?_
  refine V_ldc2 hC dX1_keep_3 q1149 ?_
  refine V_callS_PI (As := [.long (Int32.toInt64 x1), .long 0, .long 2]) (rest := []) (d' := 0) hC dX1_keep_6 3 (lw_S q285 q286 q85 q287) (by decide +kernel) rfl rfl (Nat.le_of_ble_eq_true rfl) (Nat.le_trans (by decide) hd) (by decide) vMP_l (fun _ h => c_X1_in (Nat.le_refl _) h) (fun r => ?_)
  refine V_if_ne (tgt := 14) hC dX1_keep_9 (by decide) ?_ ?_
  · refine V_aload_n hC dX1_keep_14 rfl ?_
    refine g_X1_80 hC dX1_keep_15 (fun b => ?_)
    refine V_iload_n hC dX1_keep_18 rfl ?_
    refine V_new (c := 16) hC dX1_keep_19 q180 q1188 q113 rfl (by decide) in_X16 tyX16 tyX16_ok (by decide +kernel) (fun b_1 σ_1 => ?_)
    refine V_dup hC dX1_keep_22 rfl ?_
    refine V_aload_n hC dX1_keep_23 rfl ?_
    refine V_callI_V (As := [.ref a0]) (rest := [.ref b_1, .int x1, .ref b]) (d' := 1) hC dX1_keep_24 1 q1191 q113 q1189 q1190 rfl rfl (by decide +kernel) rfl rfl (Nat.le_of_ble_eq_true rfl) (Nat.le_trans (by decide) hd) (by decide) vMP_l (fun _ h => c_X16_init (Nat.le_refl _) h) (fun σ_2 => ?_)
    refine V_astq (k := 111) (t0 := 7) (c := 16) hC dX1_keep_27 (by decide) (by decide) (by decide) (fun _ => rfl) rfl (fun σ_3 => ?_)
    refine V_iconst (v := 1) hC dX1_keep_28 rfl ?_
    exact V_zreturn rfl dX1_keep_29 rfl rfl
  · refine V_iconst (v := 0) hC dX1_keep_12 rfl ?_
    exact V_zreturn rfl dX1_keep_13 rfl rfl
theorem c_X1_keep {l : Launch} {d : Nat} (hd : 2 ≤ d) {σ : vMem} {a0 : Nat} {x1 : Int32} {r : Int32 × vMem} (h : f_X1_keep σ a0 x1 = some r) : vOk l yX1_keep cX1_keep 2 (some .boolean) d [.ref a0, .int x1] σ (.inl ((eI).1 r, (eI).2 r)) := V_method (em := eI) [some (.ref a0), some (.int x1)] (by decide +kernel) rfl (Nat.le_of_ble_eq_true rfl) (w_X1_keep hd σ a0 x1) h
/-! NobodyBeenAft.again(I)Z -/
def f_X1_again (σ : vMem) (a0 : Nat) (x1 : Int32) : Option (Int32 × vMem) := bp (f_X1_in σ (Int32.toInt64 x1) 0 2) (fun r => if r = 0 then (some (0, σ)) else cko σ a0 [1] (dr (gr σ a0 27) (fun b => cka σ b 111 x1 (onr (gr σ b (Int32.toNatClampNeg x1)) (some (0, σ)) (fun b_1 => cko σ a0 [1] (dr (gr σ a0 27) (fun b_2 => cka σ b_2 111 x1 (dr (gr σ b_2 (Int32.toNatClampNeg x1)) (fun b_3 => cko σ b_3 [16] (cko σ a0 [1] (if (gi σ b_3 1) = (gi σ a0 13) then (cko σ a0 [1] (dr (gr σ a0 0) (fun b_4 => cko σ a0 [1] (dr (gr σ a0 27) (fun b_5 => cka σ b_5 111 x1 (dr (gr σ b_5 (Int32.toNatClampNeg x1)) (fun b_6 => cko σ b_6 [16] (dr (gr σ b_6 0) (fun b_7 => cko σ b_4 [2] (bv (f_X2_be σ b_4 b_7) (fun σ_1 => cko σ_1 a0 [1] (vl (si σ_1 a0 14 0) (fun σ_2 => some (1, σ_2)))))))))))))) else some (0, σ))))))))))))
abbrev P_X1_again (l : Launch) (d n0 s0 : Nat) : vX → Prop := vMP l yX1_again cX1_again 2 (some .boolean) d n0 s0
theorem w_X1_again {l : Launch} {d n0 s0 : Nat} (hd : 1 ≤ d) (σ : vMem) (a0 : Nat) (x1 : Int32) : V (P_X1_again l d n0 s0) (vEmb eI) σ 0 [some (.ref a0), some (.int x1)] [] (f_X1_again σ a0 x1) := by
  have hC : vPx (P_X1_again l d n0 s0) cX1_again 2 "NobodyBeenAft" (some .boolean) d := vMP_cx
  refine V_eq (f_X1_again.eq_1 ..) ?_
  refine V_iload_n hC dX1_again_0 rfl ?_
  refine V_i2l hC dX1_again_1 ?_
  refine V_lconst (v := 0) hC dX1_again_2 rfl ?_
  refine V_ldc2 hC dX1_again_3 q1149 ?_
  refine V_callS_PI (As := [.long (Int32.toInt64 x1), .long 0, .long 2]) (rest := []) (d' := 0) hC dX1_again_6 3 (lw_S q285 q286 q85 q287) (by decide +kernel) rfl rfl (Nat.le_of_ble_eq_true rfl) (Nat.le_trans (by decide) hd) (by decide) vMP_l (fun _ h => c_X1_in (Nat.le_refl _) h) (fun r => ?_)
  refine V_if_eq (tgt := 37) hC dX1_again_9 (by decide) ?_ ?_
  · refine V_iconst (v := 0) hC dX1_again_37 rfl ?_
    exact V_zreturn rfl dX1_again_38 rfl rfl
  · refine V_aload_n hC dX1_again_12 rfl ?_
    refine g_X1_80 hC dX1_again_13 (fun b => ?_)
    refine V_iload_n hC dX1_again_16 rfl ?_
    refine V_aald (k := 111) (t0 := 7) hC dX1_again_17 (by decide) (fun _ => rfl) rfl (V_onr ?_ fun b_1 => ?_)
    · refine V_ifnullN (tgt := 37) hC dX1_again_18 (by decide) ?_
      refine V_iconst (v := 0) hC dX1_again_37 rfl ?_
      exact V_zreturn rfl dX1_again_38 rfl rfl
    · refine V_ifnull hC dX1_again_18 ?_
      refine V_aload_n hC dX1_again_21 rfl ?_
      refine g_X1_80 hC dX1_again_22 (fun b_2 => ?_)
      refine V_iload_n hC dX1_again_25 rfl ?_
      refine V_aald (k := 111) (t0 := 7) hC dX1_again_26 (by decide) (fun _ => rfl) rfl (V_dr fun b_3 => ?_)
      refine g_X1_475 hC dX1_again_27 ?_
      refine V_aload_n hC dX1_again_30 rfl ?_
      refine g_X1_167 hC dX1_again_31 ?_
      refine V_icmp_eq (tgt := 39) hC dX1_again_34 (by decide) ?_ ?_
      · refine V_aload_n hC dX1_again_39 rfl ?_
        refine g_X1_21 hC dX1_again_40 (fun b_4 => ?_)
        refine V_aload_n hC dX1_again_43 rfl ?_
        refine g_X1_80 hC dX1_again_44 (fun b_5 => ?_)
        refine V_iload_n hC dX1_again_47 rfl ?_
        refine V_aald (k := 111) (t0 := 7) hC dX1_again_48 (by decide) (fun _ => rfl) rfl (V_dr fun b_6 => ?_)
        refine g_X1_478 hC dX1_again_49 (fun b_7 => ?_)
        refine V_cko (fun hm => V_callV_V (c := 2) (As := [.ref b_7]) (rest := []) (d' := 0) hC dX1_again_52 1 (lw_V q705 q706 q707 q86 q708) (by decide +kernel) (List.mem_singleton.mp hm) (by decide) (by decide) rfl rfl rfl (Nat.le_of_ble_eq_true rfl) (Nat.le_trans (by decide) hd) (by decide) vMP_l (fun _ h => c_X2_be (Nat.le_refl _) h) (fun σ_1 => ?_))
        refine V_aload_n hC dX1_again_55 rfl ?_
        refine V_iconst (v := 0) hC dX1_again_56 rfl ?_
        refine p_X1_164 hC dX1_again_57 (fun σ_2 => ?_)
        refine V_iconst (v := 1) hC dX1_again_60 rfl ?_
        exact V_zreturn rfl dX1_again_61 rfl rfl
      · refine V_iconst (v := 0) hC dX1_again_37 rfl ?_
        exact V_zreturn rfl dX1_again_38 rfl rfl
theorem c_X1_again {l : Launch} {d : Nat} (hd : 1 ≤ d) {σ : vMem} {a0 : Nat} {x1 : Int32} {r : Int32 × vMem} (h : f_X1_again σ a0 x1 = some r) : vOk l yX1_again cX1_again 2 (some .boolean) d [.ref a0, .int x1] σ (.inl ((eI).1 r, (eI).2 r)) := V_method (em := eI) [some (.ref a0), some (.int x1)] (by decide +kernel) rfl (Nat.le_of_ble_eq_true rfl) (w_X1_again hd σ a0 x1) h
/-! NobodyBeenAft.count(I)I -/
def f_X1_count (σ : vMem) (a0 : Nat) (x1 : Int32) : Option (Int32) := if x1 = 0 then (cko σ a0 [1] (some (gi σ a0 8))) else if x1 = 1 then (cko σ a0 [1] (some (gi σ a0 9))) else if x1 = 2 then (cko σ a0 [1] (bp (f_J7_bitCount σ (gi σ a0 10)) (fun r => some r))) else if x1 = 3 then (cko σ a0 [1] (some (gi σ a0 11))) else if x1 = 4 then (cko σ a0 [1] (some (gi σ a0 12))) else if x1 = 5 then (cko σ a0 [1] (dr (gr σ a0 0) (fun b => cko σ b [2] (some (gi σ b 4))))) else if x1 = 6 then (cko σ a0 [1] (dr (gr σ a0 0) (fun b_1 => cko σ b_1 [2] (some (gi σ b_1 5))))) else if x1 = 7 then (cko σ a0 [1] (dr (gr σ a0 0) (fun b_2 => cko σ b_2 [2] (some (gi σ b_2 6))))) else if x1 = 8 then (cko σ a0 [1] (dr (gr σ a0 0) (fun b_3 => cko σ b_3 [2] (some (gi σ b_3 7))))) else if x1 = 9 then (cko σ a0 [1] (some (gi σ a0 24))) else if x1 = 10 then (cko σ a0 [1] (some (gi σ a0 14))) else if x1 = 11 then (cko σ a0 [1] (some (gi σ a0 18))) else if x1 = 12 then (cko σ a0 [1] (some (gi σ a0 16))) else some (-100)
abbrev P_X1_count (l : Launch) (d n0 s0 : Nat) : vX → Prop := vMP l yX1_count cX1_count 2 (some .int) d n0 s0
theorem w_X1_count {l : Launch} {d n0 s0 : Nat} (hd : 1 ≤ d) (σ : vMem) (a0 : Nat) (x1 : Int32) : V (P_X1_count l d n0 s0) (vEmb (ePI σ)) σ 0 [some (.ref a0), some (.int x1)] [] (f_X1_count σ a0 x1) := by
  have hC : vPx (P_X1_count l d n0 s0) cX1_count 2 "NobodyBeenAft" (some .int) d := vMP_cx
  refine V_eq (f_X1_count.eq_1 ..) ?_
  refine V_iload_n hC dX1_count_0 rfl ?_
  refine V_if (fun hx => ?_) (fun h_0 => ?_)
  · refine V_tin 0 (off := 67) (tgt := 68) hC dX1_count_1 hx (by decide) (by decide) (by decide) (by decide) ?_
    refine V_aload_n hC dX1_count_68 rfl ?_
    refine g_X1_48 hC dX1_count_69 ?_
    exact V_ireturn dX1_count_72 rfl rfl
  · skip
    refine V_if (fun hx => ?_) (fun h_1 => ?_)
    · refine V_tin 1 (off := 72) (tgt := 73) hC dX1_count_1 hx (by decide) (by decide) (by decide) (by decide) ?_
      refine V_aload_n hC dX1_count_73 rfl ?_
      refine g_X1_122 hC dX1_count_74 ?_
      exact V_ireturn dX1_count_77 rfl rfl
    · skip
      refine V_if (fun hx => ?_) (fun h_2 => ?_)
      · refine V_tin 2 (off := 77) (tgt := 78) hC dX1_count_1 hx (by decide) (by decide) (by decide) (by decide) ?_
        refine V_aload_n hC dX1_count_78 rfl ?_
        refine g_X1_128 hC dX1_count_79 ?_
        refine V_callS_PI (As := [.int (gi σ a0 10)]) (rest := []) (d' := 0) hC dX1_count_82 1 (lw_S q718 q624 q103 q625) (by decide +kernel) rfl rfl (Nat.le_of_ble_eq_true rfl) (Nat.le_trans (by decide) hd) (by decide) vMP_l (fun _ h => c_J7_bitCount (Nat.le_refl _) h) (fun r => ?_)
        exact V_ireturn dX1_count_85 rfl rfl
      · skip
        refine V_if (fun hx => ?_) (fun h_3 => ?_)
        · refine V_tin 3 (off := 85) (tgt := 86) hC dX1_count_1 hx (by decide) (by decide) (by decide) (by decide) ?_
          refine V_aload_n hC dX1_count_86 rfl ?_
          refine g_X1_139 hC dX1_count_87 ?_
          exact V_ireturn dX1_count_90 rfl rfl
        · skip
          refine V_if (fun hx => ?_) (fun h_4 => ?_)
          · refine V_tin 4 (off := 90) (tgt := 91) hC dX1_count_1 hx (by decide) (by decide) (by decide) (by decide) ?_
            refine V_aload_n hC dX1_count_91 rfl ?_
            refine g_X1_87 hC dX1_count_92 ?_
            exact V_ireturn dX1_count_95 rfl rfl
          · skip
            refine V_if (fun hx => ?_) (fun h_5 => ?_)
            · refine V_tin 5 (off := 95) (tgt := 96) hC dX1_count_1 hx (by decide) (by decide) (by decide) (by decide) ?_
              refine V_aload_n hC dX1_count_96 rfl ?_
              refine g_X1_21 hC dX1_count_97 (fun b => ?_)
              refine g_X1_215 hC dX1_count_100 ?_
              exact V_ireturn dX1_count_103 rfl rfl
            · skip
              refine V_if (fun hx => ?_) (fun h_6 => ?_)
              · refine V_tin 6 (off := 103) (tgt := 104) hC dX1_count_1 hx (by decide) (by decide) (by decide) (by decide) ?_
                refine V_aload_n hC dX1_count_104 rfl ?_
                refine g_X1_21 hC dX1_count_105 (fun b_1 => ?_)
                refine g_X1_280 hC dX1_count_108 ?_
                exact V_ireturn dX1_count_111 rfl rfl
              · skip
                refine V_if (fun hx => ?_) (fun h_7 => ?_)
                · refine V_tin 7 (off := 111) (tgt := 112) hC dX1_count_1 hx (by decide) (by decide) (by decide) (by decide) ?_
                  refine V_aload_n hC dX1_count_112 rfl ?_
                  refine g_X1_21 hC dX1_count_113 (fun b_2 => ?_)
                  refine g_X1_277 hC dX1_count_116 ?_
                  exact V_ireturn dX1_count_119 rfl rfl
                · skip
                  refine V_if (fun hx => ?_) (fun h_8 => ?_)
                  · refine V_tin 8 (off := 119) (tgt := 120) hC dX1_count_1 hx (by decide) (by decide) (by decide) (by decide) ?_
                    refine V_aload_n hC dX1_count_120 rfl ?_
                    refine g_X1_21 hC dX1_count_121 (fun b_3 => ?_)
                    refine g_X1_209 hC dX1_count_124 ?_
                    exact V_ireturn dX1_count_127 rfl rfl
                  · skip
                    refine V_if (fun hx => ?_) (fun h_9 => ?_)
                    · refine V_tin 9 (off := 127) (tgt := 128) hC dX1_count_1 hx (by decide) (by decide) (by decide) (by decide) ?_
                      refine V_aload_n hC dX1_count_128 rfl ?_
                      refine g_X1_423 hC dX1_count_129 ?_
                      exact V_ireturn dX1_count_132 rfl rfl
                    · skip
                      refine V_if (fun hx => ?_) (fun h_10 => ?_)
                      · refine V_tin 10 (off := 132) (tgt := 133) hC dX1_count_1 hx (by decide) (by decide) (by decide) (by decide) ?_
                        refine V_aload_n hC dX1_count_133 rfl ?_
                        refine g_X1_164 hC dX1_count_134 ?_
                        exact V_ireturn dX1_count_137 rfl rfl
                      · skip
                        refine V_if (fun hx => ?_) (fun h_11 => ?_)
                        · refine V_tin 11 (off := 137) (tgt := 138) hC dX1_count_1 hx (by decide) (by decide) (by decide) (by decide) ?_
                          refine V_aload_n hC dX1_count_138 rfl ?_
                          refine g_X1_84 hC dX1_count_139 ?_
                          exact V_ireturn dX1_count_142 rfl rfl
                        · skip
                          refine V_if (fun hx => ?_) (fun h_12 => ?_)
                          · refine V_tin 12 (off := 142) (tgt := 143) hC dX1_count_1 hx (by decide) (by decide) (by decide) (by decide) ?_
                            refine V_aload_n hC dX1_count_143 rfl ?_
                            refine g_X1_96 hC dX1_count_144 ?_
                            exact V_ireturn dX1_count_147 rfl rfl
                          · skip
                            refine V_tout (tgt := 148) hC dX1_count_1 (by have q0 := sw_ne (n := 0) h_0 (by decide); have q1 := sw_ne (n := 1) h_1 (by decide); have q2 := sw_ne (n := 2) h_2 (by decide); have q3 := sw_ne (n := 3) h_3 (by decide); have q4 := sw_ne (n := 4) h_4 (by decide); have q5 := sw_ne (n := 5) h_5 (by decide); have q6 := sw_ne (n := 6) h_6 (by decide); have q7 := sw_ne (n := 7) h_7 (by decide); have q8 := sw_ne (n := 8) h_8 (by decide); have q9 := sw_ne (n := 9) h_9 (by decide); have q10 := sw_ne (n := 10) h_10 (by decide); have q11 := sw_ne (n := 11) h_11 (by decide); have q12 := sw_ne (n := 12) h_12 (by decide); omega) (by decide) ?_
                            refine V_bipush (v := (-100)) hC dX1_count_148 rfl ?_
                            exact V_ireturn dX1_count_150 rfl rfl
theorem c_X1_count {l : Launch} {d : Nat} (hd : 1 ≤ d) {σ : vMem} {a0 : Nat} {x1 : Int32} {r : Int32} (h : f_X1_count σ a0 x1 = some r) : vOk l yX1_count cX1_count 2 (some .int) d [.ref a0, .int x1] σ (.inl (((ePI σ)).1 r, ((ePI σ)).2 r)) := V_method (em := (ePI σ)) [some (.ref a0), some (.int x1)] (by decide +kernel) rfl (Nat.le_of_ble_eq_true rfl) (w_X1_count hd σ a0 x1) h
