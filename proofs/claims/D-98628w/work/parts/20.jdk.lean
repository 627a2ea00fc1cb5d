/-! MACHINE HALF, printed by gen/build.py: terms (f_), walks (w_), contracts (c_) -/
set_option maxRecDepth 100000
/-! java/lang/String.coder()B -/
def f_J3_coder (σ : vMem) (a0 : Nat) : Option (Int32) := if (1 : Int32) = 0 then (some 1) else cks a0 (ck (narrow .byte (.int (0 : Int32)) = .int (0 : Int32)) (some (0 : Int32)))
abbrev P_J3_coder (l : Launch) (d n0 s0 : Nat) : vX → Prop := vMP l yJ3_coder cJ3_coder 1 (some .byte) d n0 s0
theorem w_J3_coder {l : Launch} {d n0 s0 : Nat} (hd : 0 ≤ d) (σ : vMem) (a0 : Nat) : V (P_J3_coder l d n0 s0) (vEmb (ePI σ)) σ 0 [some (.ref a0)] [] (f_J3_coder σ a0) := by
  have hC : vPx (P_J3_coder l d n0 s0) cJ3_coder 1 "java/lang/String" (some .byte) d := vMP_cx
  refine V_eq (f_J3_coder.eq_1 ..) ?_
  refine V_gsCompact hC dJ3_coder_0 q1510 ?_
  refine V_if_eq (tgt := 13) hC dJ3_coder_3 (by decide) ?_ ?_
  · refine V_iconst (v := 1) hC dJ3_coder_13 rfl ?_
    exact V_zreturn rfl dJ3_coder_14 rfl rfl
  · refine V_aload_n hC dJ3_coder_6 rfl ?_
    refine V_scod hC dJ3_coder_7 q1991 ?_
    refine V_goto (tgt := 14) hC dJ3_coder_10 (by decide) ?_
    exact V_ck (fun h9 => V_zreturn h9 dJ3_coder_14 rfl rfl)
theorem c_J3_coder {l : Launch} {d : Nat} (hd : 0 ≤ d) {σ : vMem} {a0 : Nat} {r : Int32} (h : f_J3_coder σ a0 = some r) : vOk l yJ3_coder cJ3_coder 1 (some .byte) d [.ref a0] σ (.inl (((ePI σ)).1 r, ((ePI σ)).2 r)) := V_method (em := (ePI σ)) [some (.ref a0)] (by decide +kernel) rfl (Nat.le_of_ble_eq_true rfl) (w_J3_coder hd σ a0) h
/-! java/lang/String.length()I -/
def f_J3_length (σ : vMem) (a0 : Nat) : Option (Int32) := cks a0 (ckb (a0 + 10) (cks a0 (bp (f_J3_coder σ a0) (fun r => some ((Int32.ofNat (sLn.getD ((a0 + 10) - (SB + 10)) 0)) >>> (r &&& 31))))))
abbrev P_J3_length (l : Launch) (d n0 s0 : Nat) : vX → Prop := vMP l yJ3_length cJ3_length 1 (some .int) d n0 s0
theorem w_J3_length {l : Launch} {d n0 s0 : Nat} (hd : 1 ≤ d) (σ : vMem) (a0 : Nat) : V (P_J3_length l d n0 s0) (vEmb (ePI σ)) σ 0 [some (.ref a0)] [] (f_J3_length σ a0) := by
  have hC : vPx (P_J3_length l d n0 s0) cJ3_length 1 "java/lang/String" (some .int) d := vMP_cx
  refine V_eq (f_J3_length.eq_1 ..) ?_
  refine V_aload_n hC dJ3_length_0 rfl ?_
  refine V_sval hC dJ3_length_1 q1990 ?_
  refine V_tlen hC dJ3_length_4 ?_
  refine V_aload_n hC dJ3_length_5 rfl ?_
  refine V_cks (fun hm => V_callT_PI (As := []) (rest := [.int (Int32.ofNat (sLn.getD ((a0 + 10) - (SB + 10)) 0))]) (d' := 0) hC dJ3_length_6 0 (lw_V q1506 q1507 q1508 q97 q1509) (by decide +kernel) hm rfl rfl (Nat.le_of_ble_eq_true rfl) (Nat.le_trans (by decide) hd) (by decide) vMP_l (fun _ h => c_J3_coder (Nat.le_refl _) h) (fun r => ?_))
  refine V_ishr hC dJ3_length_9 ?_
  exact V_ireturn dJ3_length_10 rfl rfl
theorem c_J3_length {l : Launch} {d : Nat} (hd : 1 ≤ d) {σ : vMem} {a0 : Nat} {r : Int32} (h : f_J3_length σ a0 = some r) : vOk l yJ3_length cJ3_length 1 (some .int) d [.ref a0] σ (.inl (((ePI σ)).1 r, ((ePI σ)).2 r)) := V_method (em := (ePI σ)) [some (.ref a0)] (by decide +kernel) rfl (Nat.le_of_ble_eq_true rfl) (w_J3_length hd σ a0) h
/-! java/lang/String.isLatin1()Z -/
def f_J3_isLatin1 (σ : vMem) (a0 : Nat) : Option (Int32) := vl (some 0) (fun k => if (1 : Int32) = 0 then k else cks a0 (if ¬ (0 : Int32) = 0 then k else some 1))
abbrev P_J3_isLatin1 (l : Launch) (d n0 s0 : Nat) : vX → Prop := vMP l yJ3_isLatin1 cJ3_isLatin1 1 (some .boolean) d n0 s0
theorem w_J3_isLatin1 {l : Launch} {d n0 s0 : Nat} (hd : 0 ≤ d) (σ : vMem) (a0 : Nat) : V (P_J3_isLatin1 l d n0 s0) (vEmb (ePI σ)) σ 0 [some (.ref a0)] [] (f_J3_isLatin1 σ a0) := by
  have hC : vPx (P_J3_isLatin1 l d n0 s0) cJ3_isLatin1 1 "java/lang/String" (some .boolean) d := vMP_cx
  refine V_eq (f_J3_isLatin1.eq_1 ..) ?_
  refine V_gsCompact hC dJ3_isLatin1_0 q1510 ?_
  refine V_let (B := fun k => V (P_J3_isLatin1 l d n0 s0) (vEmb (ePI σ)) σ 17 [none] [] (k)) ?_ ?_
  · skip
    refine V_iconst (v := 0) hC dJ3_isLatin1_17 rfl ?_
    exact V_zreturn rfl dJ3_isLatin1_18 rfl rfl
  · intro k hk
    refine V_if_eq (tgt := 17) hC dJ3_isLatin1_3 (by decide) ?_ ?_
    · refine V_clr [0] (ls' := [none]) rfl ?_
      exact hk
    · refine V_aload_n hC dJ3_isLatin1_6 rfl ?_
      refine V_scod hC dJ3_isLatin1_7 q1991 ?_
      refine V_if_ne (tgt := 17) hC dJ3_isLatin1_10 (by decide) ?_ ?_
      · refine V_clr [0] (ls' := [none]) rfl ?_
        exact hk
      · refine V_iconst (v := 1) hC dJ3_isLatin1_13 rfl ?_
        refine V_goto (tgt := 18) hC dJ3_isLatin1_14 (by decide) ?_
        exact V_zreturn rfl dJ3_isLatin1_18 rfl rfl
theorem c_J3_isLatin1 {l : Launch} {d : Nat} (hd : 0 ≤ d) {σ : vMem} {a0 : Nat} {r : Int32} (h : f_J3_isLatin1 σ a0 = some r) : vOk l yJ3_isLatin1 cJ3_isLatin1 1 (some .boolean) d [.ref a0] σ (.inl (((ePI σ)).1 r, ((ePI σ)).2 r)) := V_method (em := (ePI σ)) [some (.ref a0)] (by decide +kernel) rfl (Nat.le_of_ble_eq_true rfl) (w_J3_isLatin1 hd σ a0) h
/-! jdk/internal/util/Preconditions.checkIndex(IILjava/util/function/BiFunction;)I -/
def f_J5_checkIndex (σ : vMem) (x0 : Int32) (x1 : Int32) : Option (Int32) := vl (none) (fun k => if x0 < 0 then k else if x0 < x1 then (some x0) else k)
abbrev P_J5_checkIndex (l : Launch) (d n0 s0 : Nat) : vX → Prop := vMP l yJ5_checkIndex cJ5_checkIndex 3 (some .int) d n0 s0
theorem w_J5_checkIndex {l : Launch} {d n0 s0 : Nat} (hd : 0 ≤ d) (σ : vMem) (x0 : Int32) (x1 : Int32) (g2 : Option Nat) : V (P_J5_checkIndex l d n0 s0) (vEmb (ePI σ)) σ 0 [some (.int x0), some (.int x1), some (va_rf g2)] [] (f_J5_checkIndex σ x0 x1) := by
  have hC : vPx (P_J5_checkIndex l d n0 s0) cJ5_checkIndex 3 "jdk/internal/util/Preconditions" (some .int) d := vMP_cx
  refine V_eq (f_J5_checkIndex.eq_1 ..) ?_
  refine V_iload_n hC dJ5_checkIndex_0 rfl ?_
  refine V_let (B := fun k => V (P_J5_checkIndex l d n0 s0) (vEmb (ePI σ)) σ 9 [none, none, some (va_rf g2)] [] (k)) ?_ ?_
  · skip
    exact V_none
  · intro k hk
    refine V_if_lt (tgt := 9) hC dJ5_checkIndex_1 (by decide) ?_ ?_
    · refine V_clr [0, 1] (ls' := [none, none, some (va_rf g2)]) rfl ?_
      exact hk
    · refine V_iload_n hC dJ5_checkIndex_4 rfl ?_
      refine V_iload_n hC dJ5_checkIndex_5 rfl ?_
      refine V_icmp_lt (tgt := 16) hC dJ5_checkIndex_6 (by decide) ?_ ?_
      · refine V_iload_n hC dJ5_checkIndex_16 rfl ?_
        exact V_ireturn dJ5_checkIndex_17 rfl rfl
      · refine V_clr [0, 1] (ls' := [none, none, some (va_rf g2)]) rfl ?_
        exact hk
theorem c_J5_checkIndex {l : Launch} {d : Nat} (hd : 0 ≤ d) {σ : vMem} {x0 : Int32} {x1 : Int32} {g2 : Option Nat} {r : Int32} (h : f_J5_checkIndex σ x0 x1 = some r) : vOk l yJ5_checkIndex cJ5_checkIndex 3 (some .int) d [.int x0, .int x1, va_rf g2] σ (.inl (((ePI σ)).1 r, ((ePI σ)).2 r)) := V_method (em := (ePI σ)) [some (.int x0), some (.int x1), some (va_rf g2)] (by decide +kernel) rfl (by cases g2 <;> exact Nat.le_of_ble_eq_true rfl) (w_J5_checkIndex hd σ x0 x1 g2) h
/-! java/lang/String.checkIndex(II)V -/
def f_J3_checkIndex (σ : vMem) (x0 : Int32) (x1 : Int32) : Option (vMem) := bp (f_J5_checkIndex σ x0 x1) (fun r => some σ)
abbrev P_J3_checkIndex (l : Launch) (d n0 s0 : Nat) : vX → Prop := vMP l yJ3_checkIndex cJ3_checkIndex 2 none d n0 s0
theorem w_J3_checkIndex {l : Launch} {d n0 s0 : Nat} (hd : 1 ≤ d) (σ : vMem) (x0 : Int32) (x1 : Int32) : V (P_J3_checkIndex l d n0 s0) (vEmb eV) σ 0 [some (.int x0), some (.int x1)] [] (f_J3_checkIndex σ x0 x1) := by
  have hC : vPx (P_J3_checkIndex l d n0 s0) cJ3_checkIndex 2 "java/lang/String" none d := vMP_cx
  refine V_eq (f_J3_checkIndex.eq_1 ..) ?_
  refine V_iload_n hC dJ3_checkIndex_0 rfl ?_
  refine V_iload_n hC dJ3_checkIndex_1 rfl ?_
  refine V_gsSioobe hC dJ3_checkIndex_2 q1526 (fun g => ?_)
  refine V_callS_PI (As := [.int x0, .int x1, va_rf g]) (rest := []) (d' := 0) hC dJ3_checkIndex_5 3 (lw_S q1528 q1529 q99 q1530) (by decide +kernel) rfl rfl (Nat.le_of_ble_eq_true rfl) (Nat.le_trans (by decide) hd) (by decide) vMP_l (fun _ h => c_J5_checkIndex (Nat.le_refl _) h) (fun r => ?_)
  refine V_pop hC dJ3_checkIndex_8 rfl ?_
  exact V_return dJ3_checkIndex_9 rfl rfl
theorem c_J3_checkIndex {l : Launch} {d : Nat} (hd : 1 ≤ d) {σ : vMem} {x0 : Int32} {x1 : Int32} {r : vMem} (h : f_J3_checkIndex σ x0 x1 = some r) : vOk l yJ3_checkIndex cJ3_checkIndex 2 none d [.int x0, .int x1] σ (.inl ((eV).1 r, (eV).2 r)) := V_method (em := eV) [some (.int x0), some (.int x1)] (by decide +kernel) rfl (Nat.le_of_ble_eq_true rfl) (w_J3_checkIndex hd σ x0 x1) h
/-! java/lang/StringLatin1.charAt([BI)C -/
def f_J4_charAt (σ : vMem) (a0 : Nat) (x1 : Int32) : Option (Int32 × vMem) := ckb a0 (bv (f_J3_checkIndex σ x1 (Int32.ofNat (sLn.getD (a0 - (SB + 10)) 0))) (fun σ_1 => ckbi a0 x1 (ck (narrow .char (.int ((Int32.toUInt32 (((sBy.getD (a0 - (SB + 10)) []).getD (Int32.toNatClampNeg x1) 0) &&& 255) % 65536).toInt32)) = .int ((Int32.toUInt32 (((sBy.getD (a0 - (SB + 10)) []).getD (Int32.toNatClampNeg x1) 0) &&& 255) % 65536).toInt32)) (some (((Int32.toUInt32 (((sBy.getD (a0 - (SB + 10)) []).getD (Int32.toNatClampNeg x1) 0) &&& 255) % 65536).toInt32), σ_1)))))
abbrev P_J4_charAt (l : Launch) (d n0 s0 : Nat) : vX → Prop := vMP l yJ4_charAt cJ4_charAt 2 (some .char) d n0 s0
theorem w_J4_charAt {l : Launch} {d n0 s0 : Nat} (hd : 2 ≤ d) (σ : vMem) (a0 : Nat) (x1 : Int32) : V (P_J4_charAt l d n0 s0) (vEmb eI) σ 0 [some (.ref a0), some (.int x1)] [] (f_J4_charAt σ a0 x1) := by
  have hC : vPx (P_J4_charAt l d n0 s0) cJ4_charAt 2 "java/lang/StringLatin1" (some .char) d := vMP_cx
  refine V_eq (f_J4_charAt.eq_1 ..) ?_
  refine V_iload_n hC dJ4_charAt_0 rfl ?_
  refine V_aload_n hC dJ4_charAt_1 rfl ?_
  refine V_tlen hC dJ4_charAt_2 ?_
  refine V_callS_V (As := [.int x1, .int (Int32.ofNat (sLn.getD (a0 - (SB + 10)) 0))]) (rest := []) (d' := 1) hC dJ4_charAt_3 2 (lw_S q1523 q1524 q97 q1525) (by decide +kernel) rfl rfl (Nat.le_of_ble_eq_true rfl) (Nat.le_trans (by decide) hd) (by decide) vMP_l (fun _ h => c_J3_checkIndex (Nat.le_refl _) h) (fun σ_1 => ?_)
  refine V_aload_n hC dJ4_charAt_6 rfl ?_
  refine V_iload_n hC dJ4_charAt_7 rfl ?_
  refine V_tbald hC dJ4_charAt_8 ?_
  refine V_sipush (v := 255) hC dJ4_charAt_9 rfl ?_
  refine V_iand hC dJ4_charAt_12 ?_
  refine V_i2c hC dJ4_charAt_13 ?_
  exact V_ck (fun h9 => V_zreturn h9 dJ4_charAt_14 rfl rfl)
theorem c_J4_charAt {l : Launch} {d : Nat} (hd : 2 ≤ d) {σ : vMem} {a0 : Nat} {x1 : Int32} {r : Int32 × vMem} (h : f_J4_charAt σ a0 x1 = some r) : vOk l yJ4_charAt cJ4_charAt 2 (some .char) d [.ref a0, .int x1] σ (.inl ((eI).1 r, (eI).2 r)) := V_method (em := eI) [some (.ref a0), some (.int x1)] (by decide +kernel) rfl (Nat.le_of_ble_eq_true rfl) (w_J4_charAt hd σ a0 x1) h
/-! java/lang/String.charAt(I)C -/
def f_J3_charAt (σ : vMem) (a0 : Nat) (x1 : Int32) : Option (Int32 × vMem) := cks a0 (bp (f_J3_isLatin1 σ a0) (fun r => if r = 0 then none else cks a0 (bd (f_J4_charAt σ (a0 + 10) x1) (fun r_1 σ_1 => ck (narrow .char (.int r_1) = .int r_1) (some (r_1, σ_1))))))
abbrev P_J3_charAt (l : Launch) (d n0 s0 : Nat) : vX → Prop := vMP l yJ3_charAt cJ3_charAt 2 (some .char) d n0 s0
theorem w_J3_charAt {l : Launch} {d n0 s0 : Nat} (hd : 3 ≤ d) (σ : vMem) (a0 : Nat) (x1 : Int32) : V (P_J3_charAt l d n0 s0) (vEmb eI) σ 0 [some (.ref a0), some (.int x1)] [] (f_J3_charAt σ a0 x1) := by
  have hC : vPx (P_J3_charAt l d n0 s0) cJ3_charAt 2 "java/lang/String" (some .char) d := vMP_cx
  refine V_eq (f_J3_charAt.eq_1 ..) ?_
  refine V_aload_n hC dJ3_charAt_0 rfl ?_
  refine V_cks (fun hm => V_callT_PI (As := []) (rest := []) (d' := 0) hC dJ3_charAt_1 0 (lw_V q1516 q1517 q1518 q97 q1519) (by decide +kernel) hm rfl rfl (Nat.le_of_ble_eq_true rfl) (Nat.le_trans (by decide) hd) (by decide) vMP_l (fun _ h => c_J3_isLatin1 (Nat.le_refl _) h) (fun r => ?_))
  refine V_if_eq (tgt := 16) hC dJ3_charAt_4 (by decide) ?_ ?_
  · exact V_none
  · refine V_aload_n hC dJ3_charAt_7 rfl ?_
    refine V_sval hC dJ3_charAt_8 q1990 ?_
    refine V_iload_n hC dJ3_charAt_11 rfl ?_
    refine V_callS_I (As := [.ref (a0 + 10), .int x1]) (rest := []) (d' := 2) hC dJ3_charAt_12 2 (lw_S q1520 q1521 q98 q1522) (by decide +kernel) rfl rfl (Nat.le_of_ble_eq_true rfl) (Nat.le_trans (by decide) hd) (by decide) vMP_l (fun _ h => c_J4_charAt (Nat.le_refl _) h) (fun r_1 σ_1 => ?_)
    exact V_ck (fun h9 => V_zreturn h9 dJ3_charAt_15 rfl rfl)
theorem c_J3_charAt {l : Launch} {d : Nat} (hd : 3 ≤ d) {σ : vMem} {a0 : Nat} {x1 : Int32} {r : Int32 × vMem} (h : f_J3_charAt σ a0 x1 = some r) : vOk l yJ3_charAt cJ3_charAt 2 (some .char) d [.ref a0, .int x1] σ (.inl ((eI).1 r, (eI).2 r)) := V_method (em := eI) [some (.ref a0), some (.int x1)] (by decide +kernel) rfl (Nat.le_of_ble_eq_true rfl) (w_J3_charAt hd σ a0 x1) h
/-! java/lang/Integer.bitCount(I)I -/
def f_J7_bitCount (σ : vMem) (x0 : Int32) : Option (Int32) := vl (x0 - (((Int32.toUInt32 x0 >>> (Int32.toUInt32 1 &&& Int32.toUInt32 31)).toInt32) &&& 1431655765)) (fun v0 => vl ((v0 &&& 858993459) + (((Int32.toUInt32 v0 >>> (Int32.toUInt32 2 &&& Int32.toUInt32 31)).toInt32) &&& 858993459)) (fun v0_1 => vl ((v0_1 + ((Int32.toUInt32 v0_1 >>> (Int32.toUInt32 4 &&& Int32.toUInt32 31)).toInt32)) &&& 252645135) (fun v0_2 => vl (v0_2 + ((Int32.toUInt32 v0_2 >>> (Int32.toUInt32 8 &&& Int32.toUInt32 31)).toInt32)) (fun v0_3 => vl (v0_3 + ((Int32.toUInt32 v0_3 >>> (Int32.toUInt32 16 &&& Int32.toUInt32 31)).toInt32)) (fun v0_4 => some (v0_4 &&& 63))))))
abbrev P_J7_bitCount (l : Launch) (d n0 s0 : Nat) : vX → Prop := vMP l yJ7_bitCount cJ7_bitCount 1 (some .int) d n0 s0
theorem w_J7_bitCount {l : Launch} {d n0 s0 : Nat} (hd : 0 ≤ d) (σ : vMem) (x0 : Int32) : V (P_J7_bitCount l d n0 s0) (vEmb (ePI σ)) σ 0 [some (.int x0)] [] (f_J7_bitCount σ x0) := by
  have hC : vPx (P_J7_bitCount l d n0 s0) cJ7_bitCount 1 "java/lang/Integer" (some .int) d := vMP_cx
  refine V_eq (f_J7_bitCount.eq_1 ..) ?_
  refine V_iload_n hC dJ7_bitCount_0 rfl ?_
  refine V_iload_n hC dJ7_bitCount_1 rfl ?_
  refine V_iconst (v := 1) hC dJ7_bitCount_2 rfl ?_
  refine V_iushr hC dJ7_bitCount_3 ?_
  refine V_ldcw hC dJ7_bitCount_4 q626 ?_
  refine V_iand hC dJ7_bitCount_7 ?_
  refine V_isub hC dJ7_bitCount_8 ?_
  refine V_istore_nL (ls' := fun v0 => [some (.int v0)]) hC dJ7_bitCount_9 (by decide) rfl (fun _ => rfl) (fun v0 => ?_)
  refine V_iload_n hC dJ7_bitCount_10 rfl ?_
  refine V_ldcw hC dJ7_bitCount_11 q627 ?_
  refine V_iand hC dJ7_bitCount_14 ?_
  refine V_iload_n hC dJ7_bitCount_15 rfl ?_
  refine V_iconst (v := 2) hC dJ7_bitCount_16 rfl ?_
  refine V_iushr hC dJ7_bitCount_17 ?_
  refine V_ldcw hC dJ7_bitCount_18 q627 ?_
  refine V_iand hC dJ7_bitCount_21 ?_
  refine V_iadd hC dJ7_bitCount_22 ?_
  refine V_istore_nL (ls' := fun v0_1 => [some (.int v0_1)]) hC dJ7_bitCount_23 (by decide) rfl (fun _ => rfl) (fun v0_1 => ?_)
  refine V_iload_n hC dJ7_bitCount_24 rfl ?_
  refine V_iload_n hC dJ7_bitCount_25 rfl ?_
  refine V_iconst (v := 4) hC dJ7_bitCount_26 rfl ?_
  refine V_iushr hC dJ7_bitCount_27 ?_
  refine V_iadd hC dJ7_bitCount_28 ?_
  refine V_ldcw hC dJ7_bitCount_29 q628 ?_
  refine V_iand hC dJ7_bitCount_32 ?_
  refine V_istore_nL (ls' := fun v0_2 => [some (.int v0_2)]) hC dJ7_bitCount_33 (by decide) rfl (fun _ => rfl) (fun v0_2 => ?_)
  refine V_iload_n hC dJ7_bitCount_34 rfl ?_
  refine V_iload_n hC dJ7_bitCount_35 rfl ?_
  refine V_bipush (v := 8) hC dJ7_bitCount_36 rfl ?_
  refine V_iushr hC dJ7_bitCount_38 ?_
  refine V_iadd hC dJ7_bitCount_39 ?_
  refine V_istore_nL (ls' := fun v0_3 => [some (.int v0_3)]) hC dJ7_bitCount_40 (by decide) rfl (fun _ => rfl) (fun v0_3 => ?_)
  refine V_iload_n hC dJ7_bitCount_41 rfl ?_
  refine V_iload_n hC dJ7_bitCount_42 rfl ?_
  refine V_bipush (v := 16) hC dJ7_bitCount_43 rfl ?_
  refine V_iushr hC dJ7_bitCount_45 ?_
  refine V_iadd hC dJ7_bitCount_46 ?_
  refine V_istore_nL (ls' := fun v0_4 => [some (.int v0_4)]) hC dJ7_bitCount_47 (by decide) rfl (fun _ => rfl) (fun v0_4 => ?_)
  refine V_iload_n hC dJ7_bitCount_48 rfl ?_
  refine V_bipush (v := 63) hC dJ7_bitCount_49 rfl ?_
  refine V_iand hC dJ7_bitCount_51 ?_
  exact V_ireturn dJ7_bitCount_52 rfl rfl
theorem c_J7_bitCount {l : Launch} {d : Nat} (hd : 0 ≤ d) {σ : vMem} {x0 : Int32} {r : Int32} (h : f_J7_bitCount σ x0 = some r) : vOk l yJ7_bitCount cJ7_bitCount 1 (some .int) d [.int x0] σ (.inl (((ePI σ)).1 r, ((ePI σ)).2 r)) := V_method (em := (ePI σ)) [some (.int x0)] (by decide +kernel) rfl (Nat.le_of_ble_eq_true rfl) (w_J7_bitCount hd σ x0) h
/-! java/lang/Integer.numberOfLeadingZeros(I)I -/
def f_J7_numberOfLeadingZeros (σ : vMem) (x0 : Int32) : Option (Int32) := if 0 < x0 then (vl (fun (v0 : Int32) (v1 : Int32) => vl (fun (v0_1 : Int32) (v1_1 : Int32) => vl (fun (v0_2 : Int32) (v1_2 : Int32) => vl (fun (v0_3 : Int32) (v1_3 : Int32) => some (v1_3 - ((Int32.toUInt32 v0_3 >>> (Int32.toUInt32 1 &&& Int32.toUInt32 31)).toInt32))) (fun k_3 => if v0_2 < 4 then (k_3 v0_2 v1_2) else vl (v1_2 + (-2)) (fun v1_4 => vl ((Int32.toUInt32 v0_2 >>> (Int32.toUInt32 2 &&& Int32.toUInt32 31)).toInt32) (fun v0_4 => k_3 v0_4 v1_4)))) (fun k_2 => if v0_1 < 16 then (k_2 v0_1 v1_1) else vl (v1_1 + (-4)) (fun v1_5 => vl ((Int32.toUInt32 v0_1 >>> (Int32.toUInt32 4 &&& Int32.toUInt32 31)).toInt32) (fun v0_5 => k_2 v0_5 v1_5)))) (fun k_1 => if v0 < 256 then (k_1 v0 v1) else vl (v1 + (-8)) (fun v1_6 => vl ((Int32.toUInt32 v0 >>> (Int32.toUInt32 8 &&& Int32.toUInt32 31)).toInt32) (fun v0_6 => k_1 v0_6 v1_6)))) (fun k => if x0 < 65536 then (k x0 31) else vl (31 + (-16)) (fun v1_7 => vl ((Int32.toUInt32 x0 >>> (Int32.toUInt32 16 &&& Int32.toUInt32 31)).toInt32) (fun v0_7 => k v0_7 v1_7)))) else if ¬ x0 = 0 then (some 0) else some 32
abbrev P_J7_numberOfLeadingZeros (l : Launch) (d n0 s0 : Nat) : vX → Prop := vMP l yJ7_numberOfLeadingZeros cJ7_numberOfLeadingZeros 2 (some .int) d n0 s0
theorem w_J7_numberOfLeadingZeros {l : Launch} {d n0 s0 : Nat} (hd : 0 ≤ d) (σ : vMem) (x0 : Int32) : V (P_J7_numberOfLeadingZeros l d n0 s0) (vEmb (ePI σ)) σ 0 [some (.int x0), none] [] (f_J7_numberOfLeadingZeros σ x0) := by
  have hC : vPx (P_J7_numberOfLeadingZeros l d n0 s0) cJ7_numberOfLeadingZeros 2 "java/lang/Integer" (some .int) d := vMP_cx
  refine V_eq (f_J7_numberOfLeadingZeros.eq_1 ..) ?_
  refine V_iload_n hC dJ7_numberOfLeadingZeros_0 rfl ?_
  refine V_if_gt (tgt := 15) hC dJ7_numberOfLeadingZeros_1 (by decide) ?_ ?_
  · refine V_bipush (v := 31) hC dJ7_numberOfLeadingZeros_15 rfl ?_
    refine V_istore_n (ls' := [some (.int x0), some (.int 31)]) hC dJ7_numberOfLeadingZeros_17 (by decide) rfl rfl ?_
    refine V_iload_n hC dJ7_numberOfLeadingZeros_18 rfl ?_
    refine V_ldcw hC dJ7_numberOfLeadingZeros_19 q1123 ?_
    refine V_let (B := fun k => ∀ (v0 : Int32), ∀ (v1 : Int32), V (P_J7_numberOfLeadingZeros l d n0 s0) (vEmb (ePI σ)) σ 33 [some (.int v0), some (.int v1)] [] (k v0 v1)) ?_ ?_
    · intro v0 v1
      refine V_iload_n hC dJ7_numberOfLeadingZeros_33 rfl ?_
      refine V_sipush (v := 256) hC dJ7_numberOfLeadingZeros_34 rfl ?_
      refine V_let (B := fun k_1 => ∀ (v0_1 : Int32), ∀ (v1_1 : Int32), V (P_J7_numberOfLeadingZeros l d n0 s0) (vEmb (ePI σ)) σ 48 [some (.int v0_1), some (.int v1_1)] [] (k_1 v0_1 v1_1)) ?_ ?_
      · intro v0_1 v1_1
        refine V_iload_n hC dJ7_numberOfLeadingZeros_48 rfl ?_
        refine V_bipush (v := 16) hC dJ7_numberOfLeadingZeros_49 rfl ?_
        refine V_let (B := fun k_2 => ∀ (v0_2 : Int32), ∀ (v1_2 : Int32), V (P_J7_numberOfLeadingZeros l d n0 s0) (vEmb (ePI σ)) σ 61 [some (.int v0_2), some (.int v1_2)] [] (k_2 v0_2 v1_2)) ?_ ?_
        · intro v0_2 v1_2
          refine V_iload_n hC dJ7_numberOfLeadingZeros_61 rfl ?_
          refine V_iconst (v := 4) hC dJ7_numberOfLeadingZeros_62 rfl ?_
          refine V_let (B := fun k_3 => ∀ (v0_3 : Int32), ∀ (v1_3 : Int32), V (P_J7_numberOfLeadingZeros l d n0 s0) (vEmb (ePI σ)) σ 73 [some (.int v0_3), some (.int v1_3)] [] (k_3 v0_3 v1_3)) ?_ ?_
          · intro v0_3 v1_3
            refine V_iload_n hC dJ7_numberOfLeadingZeros_73 rfl ?_
            refine V_iload_n hC dJ7_numberOfLeadingZeros_74 rfl ?_
            refine V_iconst (v := 1) hC dJ7_numberOfLeadingZeros_75 rfl ?_
            refine V_iushr hC dJ7_numberOfLeadingZeros_76 ?_
            refine V_isub hC dJ7_numberOfLeadingZeros_77 ?_
            exact V_ireturn dJ7_numberOfLeadingZeros_78 rfl rfl
          · intro k_3 hk_3
            refine V_icmp_lt (tgt := 73) hC dJ7_numberOfLeadingZeros_63 (by decide) ?_ ?_
            · exact hk_3 v0_2 v1_2
            · refine V_iincL (v := v1_2 + (-2)) (ls' := fun v1_4 => [some (.int v0_2), some (.int v1_4)]) hC dJ7_numberOfLeadingZeros_66 rfl (by decide) rfl rfl (fun _ => rfl) (fun v1_4 => ?_)
              refine V_iload_n hC dJ7_numberOfLeadingZeros_69 rfl ?_
              refine V_iconst (v := 2) hC dJ7_numberOfLeadingZeros_70 rfl ?_
              refine V_iushr hC dJ7_numberOfLeadingZeros_71 ?_
              refine V_istore_nL (ls' := fun v0_4 => [some (.int v0_4), some (.int v1_4)]) hC dJ7_numberOfLeadingZeros_72 (by decide) rfl (fun _ => rfl) (fun v0_4 => ?_)
              exact hk_3 v0_4 v1_4
        · intro k_2 hk_2
          refine V_icmp_lt (tgt := 61) hC dJ7_numberOfLeadingZeros_51 (by decide) ?_ ?_
          · exact hk_2 v0_1 v1_1
          · refine V_iincL (v := v1_1 + (-4)) (ls' := fun v1_5 => [some (.int v0_1), some (.int v1_5)]) hC dJ7_numberOfLeadingZeros_54 rfl (by decide) rfl rfl (fun _ => rfl) (fun v1_5 => ?_)
            refine V_iload_n hC dJ7_numberOfLeadingZeros_57 rfl ?_
            refine V_iconst (v := 4) hC dJ7_numberOfLeadingZeros_58 rfl ?_
            refine V_iushr hC dJ7_numberOfLeadingZeros_59 ?_
            refine V_istore_nL (ls' := fun v0_5 => [some (.int v0_5), some (.int v1_5)]) hC dJ7_numberOfLeadingZeros_60 (by decide) rfl (fun _ => rfl) (fun v0_5 => ?_)
            exact hk_2 v0_5 v1_5
      · intro k_1 hk_1
        refine V_icmp_lt (tgt := 48) hC dJ7_numberOfLeadingZeros_37 (by decide) ?_ ?_
        · exact hk_1 v0 v1
        · refine V_iincL (v := v1 + (-8)) (ls' := fun v1_6 => [some (.int v0), some (.int v1_6)]) hC dJ7_numberOfLeadingZeros_40 rfl (by decide) rfl rfl (fun _ => rfl) (fun v1_6 => ?_)
          refine V_iload_n hC dJ7_numberOfLeadingZeros_43 rfl ?_
          refine V_bipush (v := 8) hC dJ7_numberOfLeadingZeros_44 rfl ?_
          refine V_iushr hC dJ7_numberOfLeadingZeros_46 ?_
          refine V_istore_nL (ls' := fun v0_6 => [some (.int v0_6), some (.int v1_6)]) hC dJ7_numberOfLeadingZeros_47 (by decide) rfl (fun _ => rfl) (fun v0_6 => ?_)
          exact hk_1 v0_6 v1_6
    · intro k hk
      refine V_icmp_lt (tgt := 33) hC dJ7_numberOfLeadingZeros_22 (by decide) ?_ ?_
      · exact hk x0 31
      · refine V_iincL (v := 31 + (-16)) (ls' := fun v1_7 => [some (.int x0), some (.int v1_7)]) hC dJ7_numberOfLeadingZeros_25 rfl (by decide) rfl rfl (fun _ => rfl) (fun v1_7 => ?_)
        refine V_iload_n hC dJ7_numberOfLeadingZeros_28 rfl ?_
        refine V_bipush (v := 16) hC dJ7_numberOfLeadingZeros_29 rfl ?_
        refine V_iushr hC dJ7_numberOfLeadingZeros_31 ?_
        refine V_istore_nL (ls' := fun v0_7 => [some (.int v0_7), some (.int v1_7)]) hC dJ7_numberOfLeadingZeros_32 (by decide) rfl (fun _ => rfl) (fun v0_7 => ?_)
        exact hk v0_7 v1_7
  · refine V_iload_n hC dJ7_numberOfLeadingZeros_4 rfl ?_
    refine V_if_ne (tgt := 13) hC dJ7_numberOfLeadingZeros_5 (by decide) ?_ ?_
    · refine V_iconst (v := 0) hC dJ7_numberOfLeadingZeros_13 rfl ?_
      exact V_ireturn dJ7_numberOfLeadingZeros_14 rfl rfl
    · refine V_bipush (v := 32) hC dJ7_numberOfLeadingZeros_8 rfl ?_
      refine V_goto (tgt := 14) hC dJ7_numberOfLeadingZeros_10 (by decide) ?_
      exact V_ireturn dJ7_numberOfLeadingZeros_14 rfl rfl
theorem c_J7_numberOfLeadingZeros {l : Launch} {d : Nat} (hd : 0 ≤ d) {σ : vMem} {x0 : Int32} {r : Int32} (h : f_J7_numberOfLeadingZeros σ x0 = some r) : vOk l yJ7_numberOfLeadingZeros cJ7_numberOfLeadingZeros 2 (some .int) d [.int x0] σ (.inl (((ePI σ)).1 r, ((ePI σ)).2 r)) := V_method (em := (ePI σ)) [some (.int x0), none] (by decide +kernel) rfl (Nat.le_of_ble_eq_true rfl) (w_J7_numberOfLeadingZeros hd σ x0) h
/-! java/util/Arrays.fill([II)V -/
def f_J11_fill_5 (a0 : Nat) (x1 : Int32) (v3 : Int32) : Nat → vMem → Int32 → Option (vMem)
  | 0, _, _ => none
  | n + 1, σ_1, v2 => if v3 ≤ v2 then (some σ_1) else cka σ_1 a0 105 v2 (vl (si σ_1 a0 (Int32.toNatClampNeg v2) x1) (fun σ_2 => vl (v2 + 1) (fun v2_1 => f_J11_fill_5 a0 x1 v3 n σ_2 v2_1)))
def f_J11_fill (σ : vMem) (a0 : Nat) (x1 : Int32) : Option (vMem) := cko σ a0 [105] (vl (Int32.ofNat (len σ a0)) (fun v3 => f_J11_fill_5 a0 x1 v3 FU σ 0))
abbrev P_J11_fill (l : Launch) (d n0 s0 : Nat) : vX → Prop := vMP l yJ11_fill cJ11_fill 4 none d n0 s0
theorem w_J11_fill_5 {l : Launch} {d n0 s0 : Nat} (hd : 0 ≤ d) (a0 : Nat) (x1 : Int32) (v3 : Int32)  : ∀ (n : Nat) (σ_1 : vMem) (v2 : Int32), V (P_J11_fill l d n0 s0) (vEmb eV) σ_1 5 [some (.ref a0), some (.int x1), some (.int v2), some (.int v3)] [] (f_J11_fill_5 a0 x1 v3 n σ_1 v2) := by
  have hC : vPx (P_J11_fill l d n0 s0) cJ11_fill 4 "java/util/Arrays" none d := vMP_cx
  intro n
  induction n with
  | zero =>
    intro σ_1 v2
    exact V_none
  | succ n ih =>
    intro σ_1 v2
    refine V_eq (f_J11_fill_5.eq_2 ..) ?_
    refine V_iload_n hC dJ11_fill_5 rfl ?_
    refine V_iload_n hC dJ11_fill_6 rfl ?_
    refine V_icmp_ge (tgt := 20) hC dJ11_fill_7 (by decide) ?_ ?_
    · exact V_return dJ11_fill_20 rfl rfl
    · refine V_aload_n hC dJ11_fill_10 rfl ?_
      refine V_iload_n hC dJ11_fill_11 rfl ?_
      refine V_iload_n hC dJ11_fill_12 rfl ?_
      refine V_iast hC dJ11_fill_13 (fun σ_2 => ?_)
      refine V_iincL (v := v2 + 1) (ls' := fun v2_1 => [some (.ref a0), some (.int x1), some (.int v2_1), some (.int v3)]) hC dJ11_fill_14 rfl (by decide) rfl rfl (fun _ => rfl) (fun v2_1 => ?_)
      refine V_goto (tgt := 5) hC dJ11_fill_17 (by decide) ?_
      exact ih σ_2 v2_1
theorem w_J11_fill {l : Launch} {d n0 s0 : Nat} (hd : 0 ≤ d) (σ : vMem) (a0 : Nat) (x1 : Int32) : V (P_J11_fill l d n0 s0) (vEmb eV) σ 0 [some (.ref a0), some (.int x1), none, none] [] (f_J11_fill σ a0 x1) := by
  have hC : vPx (P_J11_fill l d n0 s0) cJ11_fill 4 "java/util/Arrays" none d := vMP_cx
  refine V_eq (f_J11_fill.eq_1 ..) ?_
  refine V_iconst (v := 0) hC dJ11_fill_0 rfl ?_
  refine V_istore_n (ls' := [some (.ref a0), some (.int x1), some (.int 0), none]) hC dJ11_fill_1 (by decide) rfl rfl ?_
  refine V_aload_n hC dJ11_fill_2 rfl ?_
  refine V_alen (k := 105) (t0 := 4) hC dJ11_fill_3 (by decide) (fun _ => rfl) ?_
  refine V_istore_nL (ls' := fun v3 => [some (.ref a0), some (.int x1), some (.int 0), some (.int v3)]) hC dJ11_fill_4 (by decide) rfl (fun _ => rfl) (fun v3 => ?_)
  exact (w_J11_fill_5 hd a0 x1 v3) FU σ 0
theorem c_J11_fill {l : Launch} {d : Nat} (hd : 0 ≤ d) {σ : vMem} {a0 : Nat} {x1 : Int32} {r : vMem} (h : f_J11_fill σ a0 x1 = some r) : vOk l yJ11_fill cJ11_fill 4 none d [.ref a0, .int x1] σ (.inl ((eV).1 r, (eV).2 r)) := V_method (em := eV) [some (.ref a0), some (.int x1), none, none] (by decide +kernel) rfl (Nat.le_of_ble_eq_true rfl) (w_J11_fill hd σ a0 x1) h
/-! java/util/Arrays.fill([ZZ)V -/
def f_J11_fill_2_5 (a0 : Nat) (x1 : Int32) (v3 : Int32) : Nat → vMem → Int32 → Option (vMem)
  | 0, _, _ => none
  | n + 1, σ_1, v2 => if v3 ≤ v2 then (some σ_1) else cka σ_1 a0 101 v2 (vl (si σ_1 a0 (Int32.toNatClampNeg v2) (vp_nar .boolean x1)) (fun σ_2 => vl (v2 + 1) (fun v2_1 => f_J11_fill_2_5 a0 x1 v3 n σ_2 v2_1)))
def f_J11_fill_2 (σ : vMem) (a0 : Nat) (x1 : Int32) : Option (vMem) := cko σ a0 [101] (vl (Int32.ofNat (len σ a0)) (fun v3 => f_J11_fill_2_5 a0 x1 v3 FU σ 0))
abbrev P_J11_fill_2 (l : Launch) (d n0 s0 : Nat) : vX → Prop := vMP l yJ11_fill_2 cJ11_fill_2 4 none d n0 s0
theorem w_J11_fill_2_5 {l : Launch} {d n0 s0 : Nat} (hd : 0 ≤ d) (a0 : Nat) (x1 : Int32) (v3 : Int32)  : ∀ (n : Nat) (σ_1 : vMem) (v2 : Int32), V (P_J11_fill_2 l d n0 s0) (vEmb eV) σ_1 5 [some (.ref a0), some (.int x1), some (.int v2), some (.int v3)] [] (f_J11_fill_2_5 a0 x1 v3 n σ_1 v2) := by
  have hC : vPx (P_J11_fill_2 l d n0 s0) cJ11_fill_2 4 "java/util/Arrays" none d := vMP_cx
  intro n
  induction n with
  | zero =>
    intro σ_1 v2
    exact V_none
  | succ n ih =>
    intro σ_1 v2
    refine V_eq (f_J11_fill_2_5.eq_2 ..) ?_
    refine V_iload_n hC dJ11_fill_2_5 rfl ?_
    refine V_iload_n hC dJ11_fill_2_6 rfl ?_
    refine V_icmp_ge (tgt := 20) hC dJ11_fill_2_7 (by decide) ?_ ?_
    · exact V_return dJ11_fill_2_20 rfl rfl
    · refine V_aload_n hC dJ11_fill_2_10 rfl ?_
      refine V_iload_n hC dJ11_fill_2_11 rfl ?_
      refine V_iload_n hC dJ11_fill_2_12 rfl ?_
      refine V_zast hC dJ11_fill_2_13 (fun σ_2 => ?_)
      refine V_iincL (v := v2 + 1) (ls' := fun v2_1 => [some (.ref a0), some (.int x1), some (.int v2_1), some (.int v3)]) hC dJ11_fill_2_14 rfl (by decide) rfl rfl (fun _ => rfl) (fun v2_1 => ?_)
      refine V_goto (tgt := 5) hC dJ11_fill_2_17 (by decide) ?_
      exact ih σ_2 v2_1
theorem w_J11_fill_2 {l : Launch} {d n0 s0 : Nat} (hd : 0 ≤ d) (σ : vMem) (a0 : Nat) (x1 : Int32) : V (P_J11_fill_2 l d n0 s0) (vEmb eV) σ 0 [some (.ref a0), some (.int x1), none, none] [] (f_J11_fill_2 σ a0 x1) := by
  have hC : vPx (P_J11_fill_2 l d n0 s0) cJ11_fill_2 4 "java/util/Arrays" none d := vMP_cx
  refine V_eq (f_J11_fill_2.eq_1 ..) ?_
  refine V_iconst (v := 0) hC dJ11_fill_2_0 rfl ?_
  refine V_istore_n (ls' := [some (.ref a0), some (.int x1), some (.int 0), none]) hC dJ11_fill_2_1 (by decide) rfl rfl ?_
  refine V_aload_n hC dJ11_fill_2_2 rfl ?_
  refine V_alen (k := 101) (t0 := 0) hC dJ11_fill_2_3 (by decide) (fun _ => rfl) ?_
  refine V_istore_nL (ls' := fun v3 => [some (.ref a0), some (.int x1), some (.int 0), some (.int v3)]) hC dJ11_fill_2_4 (by decide) rfl (fun _ => rfl) (fun v3 => ?_)
  exact (w_J11_fill_2_5 hd a0 x1 v3) FU σ 0
theorem c_J11_fill_2 {l : Launch} {d : Nat} (hd : 0 ≤ d) {σ : vMem} {a0 : Nat} {x1 : Int32} {r : vMem} (h : f_J11_fill_2 σ a0 x1 = some r) : vOk l yJ11_fill_2 cJ11_fill_2 4 none d [.ref a0, .int x1] σ (.inl ((eV).1 r, (eV).2 r)) := V_method (em := eV) [some (.ref a0), some (.int x1), none, none] (by decide +kernel) rfl (Nat.le_of_ble_eq_true rfl) (w_J11_fill_2 hd σ a0 x1) h
