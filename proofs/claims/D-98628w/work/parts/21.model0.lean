/-! MACHINE HALF, printed by gen/build.py: terms (f_), walks (w_), contracts (c_) -/
set_option maxRecDepth 100000
/-! NobodyBeenAftModel.<init>()V -/
def f_X3_init (σ : vMem) (a0 : Nat) : Option (vMem) := nwa σ 106 40 (fun b σ_1 => cko σ_1 a0 [3] (vl (sr σ_1 a0 2 (some b)) (fun σ_2 => cko σ_2 a0 [3] (vl (si σ_2 a0 3 2) (fun σ_3 => nwa σ_3 105 10 (fun b_1 σ_4 => cko σ_4 a0 [3] (vl (sr σ_4 a0 9 (some b_1)) (fun σ_5 => nwa σ_5 101 10 (fun b_2 σ_6 => cko σ_6 a0 [3] (vl (sr σ_6 a0 10 (some b_2)) (fun σ_7 => nwa σ_7 105 16 (fun b_3 σ_8 => cko σ_8 a0 [3] (vl (sr σ_8 a0 11 (some b_3)) (fun σ_9 => nwa σ_9 105 16 (fun b_4 σ_10 => cko σ_10 a0 [3] (vl (sr σ_10 a0 12 (some b_4)) (fun σ_11 => nwa σ_11 105 8 (fun b_5 σ_12 => cko σ_12 a0 [3] (vl (sr σ_12 a0 13 (some b_5)) (fun σ_13 => nwa σ_13 105 57 (fun b_6 σ_14 => cka σ_14 b_6 105 0 (vl (si σ_14 b_6 (Int32.toNatClampNeg 0) 0) (fun σ_15 => cka σ_15 b_6 105 1 (vl (si σ_15 b_6 (Int32.toNatClampNeg 1) 4) (fun σ_16 => cka σ_16 b_6 105 2 (vl (si σ_16 b_6 (Int32.toNatClampNeg 2) 0) (fun σ_17 => cka σ_17 b_6 105 3 (vl (si σ_17 b_6 (Int32.toNatClampNeg 3) 0) (fun σ_18 => cka σ_18 b_6 105 4 (vl (si σ_18 b_6 (Int32.toNatClampNeg 4) (-1)) (fun σ_19 => cka σ_19 b_6 105 5 (vl (si σ_19 b_6 (Int32.toNatClampNeg 5) 0) (fun σ_20 => cka σ_20 b_6 105 6 (vl (si σ_20 b_6 (Int32.toNatClampNeg 6) 0) (fun σ_21 => cka σ_21 b_6 105 7 (vl (si σ_21 b_6 (Int32.toNatClampNeg 7) 0) (fun σ_22 => cka σ_22 b_6 105 8 (vl (si σ_22 b_6 (Int32.toNatClampNeg 8) 0) (fun σ_23 => cka σ_23 b_6 105 9 (vl (si σ_23 b_6 (Int32.toNatClampNeg 9) 0) (fun σ_24 => cka σ_24 b_6 105 10 (vl (si σ_24 b_6 (Int32.toNatClampNeg 10) 0) (fun σ_25 => cka σ_25 b_6 105 11 (vl (si σ_25 b_6 (Int32.toNatClampNeg 11) 0) (fun σ_26 => cka σ_26 b_6 105 12 (vl (si σ_26 b_6 (Int32.toNatClampNeg 12) 0) (fun σ_27 => cka σ_27 b_6 105 13 (vl (si σ_27 b_6 (Int32.toNatClampNeg 13) 0) (fun σ_28 => cka σ_28 b_6 105 14 (vl (si σ_28 b_6 (Int32.toNatClampNeg 14) 0) (fun σ_29 => cka σ_29 b_6 105 15 (vl (si σ_29 b_6 (Int32.toNatClampNeg 15) 0) (fun σ_30 => cka σ_30 b_6 105 16 (vl (si σ_30 b_6 (Int32.toNatClampNeg 16) 0) (fun σ_31 => cka σ_31 b_6 105 17 (vl (si σ_31 b_6 (Int32.toNatClampNeg 17) 0) (fun σ_32 => cka σ_32 b_6 105 18 (vl (si σ_32 b_6 (Int32.toNatClampNeg 18) 0) (fun σ_33 => cka σ_33 b_6 105 19 (vl (si σ_33 b_6 (Int32.toNatClampNeg 19) 0) (fun σ_34 => cka σ_34 b_6 105 20 (vl (si σ_34 b_6 (Int32.toNatClampNeg 20) 0) (fun σ_35 => cka σ_35 b_6 105 21 (vl (si σ_35 b_6 (Int32.toNatClampNeg 21) 0) (fun σ_36 => cka σ_36 b_6 105 22 (vl (si σ_36 b_6 (Int32.toNatClampNeg 22) 0) (fun σ_37 => cka σ_37 b_6 105 23 (vl (si σ_37 b_6 (Int32.toNatClampNeg 23) 0) (fun σ_38 => cka σ_38 b_6 105 24 (vl (si σ_38 b_6 (Int32.toNatClampNeg 24) 0) (fun σ_39 => cka σ_39 b_6 105 25 (vl (si σ_39 b_6 (Int32.toNatClampNeg 25) 0) (fun σ_40 => cka σ_40 b_6 105 26 (vl (si σ_40 b_6 (Int32.toNatClampNeg 26) 0) (fun σ_41 => cka σ_41 b_6 105 27 (vl (si σ_41 b_6 (Int32.toNatClampNeg 27) 0) (fun σ_42 => cka σ_42 b_6 105 28 (vl (si σ_42 b_6 (Int32.toNatClampNeg 28) 0) (fun σ_43 => cka σ_43 b_6 105 29 (vl (si σ_43 b_6 (Int32.toNatClampNeg 29) 0) (fun σ_44 => cka σ_44 b_6 105 30 (vl (si σ_44 b_6 (Int32.toNatClampNeg 30) 0) (fun σ_45 => cka σ_45 b_6 105 31 (vl (si σ_45 b_6 (Int32.toNatClampNeg 31) 0) (fun σ_46 => cka σ_46 b_6 105 32 (vl (si σ_46 b_6 (Int32.toNatClampNeg 32) 0) (fun σ_47 => cka σ_47 b_6 105 33 (vl (si σ_47 b_6 (Int32.toNatClampNeg 33) 0) (fun σ_48 => cka σ_48 b_6 105 34 (vl (si σ_48 b_6 (Int32.toNatClampNeg 34) 0) (fun σ_49 => cka σ_49 b_6 105 35 (vl (si σ_49 b_6 (Int32.toNatClampNeg 35) 0) (fun σ_50 => cka σ_50 b_6 105 36 (vl (si σ_50 b_6 (Int32.toNatClampNeg 36) 0) (fun σ_51 => cka σ_51 b_6 105 37 (vl (si σ_51 b_6 (Int32.toNatClampNeg 37) 0) (fun σ_52 => cka σ_52 b_6 105 38 (vl (si σ_52 b_6 (Int32.toNatClampNeg 38) 0) (fun σ_53 => cka σ_53 b_6 105 39 (vl (si σ_53 b_6 (Int32.toNatClampNeg 39) 0) (fun σ_54 => cka σ_54 b_6 105 40 (vl (si σ_54 b_6 (Int32.toNatClampNeg 40) 0) (fun σ_55 => cka σ_55 b_6 105 41 (vl (si σ_55 b_6 (Int32.toNatClampNeg 41) 0) (fun σ_56 => cka σ_56 b_6 105 42 (vl (si σ_56 b_6 (Int32.toNatClampNeg 42) 0) (fun σ_57 => cka σ_57 b_6 105 43 (vl (si σ_57 b_6 (Int32.toNatClampNeg 43) 0) (fun σ_58 => cka σ_58 b_6 105 44 (vl (si σ_58 b_6 (Int32.toNatClampNeg 44) 0) (fun σ_59 => cka σ_59 b_6 105 45 (vl (si σ_59 b_6 (Int32.toNatClampNeg 45) 0) (fun σ_60 => cka σ_60 b_6 105 46 (vl (si σ_60 b_6 (Int32.toNatClampNeg 46) 0) (fun σ_61 => cka σ_61 b_6 105 47 (vl (si σ_61 b_6 (Int32.toNatClampNeg 47) 0) (fun σ_62 => cka σ_62 b_6 105 48 (vl (si σ_62 b_6 (Int32.toNatClampNeg 48) 0) (fun σ_63 => cka σ_63 b_6 105 49 (vl (si σ_63 b_6 (Int32.toNatClampNeg 49) 0) (fun σ_64 => cka σ_64 b_6 105 50 (vl (si σ_64 b_6 (Int32.toNatClampNeg 50) 0) (fun σ_65 => cka σ_65 b_6 105 51 (vl (si σ_65 b_6 (Int32.toNatClampNeg 51) 0) (fun σ_66 => cka σ_66 b_6 105 52 (vl (si σ_66 b_6 (Int32.toNatClampNeg 52) 0) (fun σ_67 => cka σ_67 b_6 105 53 (vl (si σ_67 b_6 (Int32.toNatClampNeg 53) 0) (fun σ_68 => cka σ_68 b_6 105 54 (vl (si σ_68 b_6 (Int32.toNatClampNeg 54) 0) (fun σ_69 => cka σ_69 b_6 105 55 (vl (si σ_69 b_6 (Int32.toNatClampNeg 55) 0) (fun σ_70 => cka σ_70 b_6 105 56 (vl (si σ_70 b_6 (Int32.toNatClampNeg 56) 0) (fun σ_71 => cko σ_71 a0 [3] (vl (sr σ_71 a0 14 (some b_6)) (fun σ_72 => nwa σ_72 105 57 (fun b_7 σ_73 => cko σ_73 a0 [3] (vl (sr σ_73 a0 15 (some b_7)) (fun σ_74 => nwa σ_74 105 80 (fun b_8 σ_75 => cko σ_75 a0 [3] (vl (sr σ_75 a0 16 (some b_8)) (fun σ_76 => nwa σ_76 105 32 (fun b_9 σ_77 => cko σ_77 a0 [3] (vl (sr σ_77 a0 21 (some b_9)) (fun σ_78 => nwa σ_78 105 80 (fun b_10 σ_79 => cko σ_79 a0 [3] (vl (sr σ_79 a0 23 (some b_10)) (fun σ_80 => nwa σ_80 105 80 (fun b_11 σ_81 => cko σ_81 a0 [3] (vl (sr σ_81 a0 24 (some b_11)) (fun σ_82 => nwa σ_82 105 80 (fun b_12 σ_83 => cko σ_83 a0 [3] (vl (sr σ_83 a0 27 (some b_12)) (fun σ_84 => nwa σ_84 105 4 (fun b_13 σ_85 => cko σ_85 a0 [3] (vl (sr σ_85 a0 28 (some b_13)) (fun σ_86 => nwa σ_86 105 912 (fun b_14 σ_87 => cko σ_87 a0 [3] (vl (sr σ_87 a0 30 (some b_14)) (fun σ_88 => nwa σ_88 105 60 (fun b_15 σ_89 => cko σ_89 a0 [3] (vl (sr σ_89 a0 33 (some b_15)) (fun σ_90 => nwa σ_90 105 60 (fun b_16 σ_91 => cko σ_91 a0 [3] (vl (sr σ_91 a0 34 (some b_16)) (fun σ_92 => nwa σ_92 105 30 (fun b_17 σ_93 => cko σ_93 a0 [3] (vl (sr σ_93 a0 36 (some b_17)) (fun σ_94 => nwa σ_94 105 9 (fun b_18 σ_95 => cko σ_95 a0 [3] (vl (sr σ_95 a0 37 (some b_18)) (fun σ_96 => nwa σ_96 105 9 (fun b_19 σ_97 => cko σ_97 a0 [3] (vl (sr σ_97 a0 38 (some b_19)) (fun σ_98 => nwa σ_98 105 14409 (fun b_20 σ_99 => cko σ_99 a0 [3] (vl (sr σ_99 a0 41 (some b_20)) (fun σ_100 => nwa σ_100 105 12 (fun b_21 σ_101 => cko σ_101 a0 [3] (vl (sr σ_101 a0 43 (some b_21)) (fun σ_102 => nwa σ_102 105 12 (fun b_22 σ_103 => cko σ_103 a0 [3] (vl (sr σ_103 a0 44 (some b_22)) (fun σ_104 => nwa σ_104 105 225 (fun b_23 σ_105 => cko σ_105 a0 [3] (vl (sr σ_105 a0 45 (some b_23)) (fun σ_106 => nwa σ_106 101 225 (fun b_24 σ_107 => cko σ_107 a0 [3] (vl (sr σ_107 a0 46 (some b_24)) (fun σ_108 => nwa σ_108 101 225 (fun b_25 σ_109 => cko σ_109 a0 [3] (vl (sr σ_109 a0 47 (some b_25)) (fun σ_110 => nwa σ_110 101 3 (fun b_26 σ_111 => cko σ_111 a0 [3] (vl (sr σ_111 a0 50 (some b_26)) (fun σ_112 => nwa σ_112 105 3 (fun b_27 σ_113 => cko σ_113 a0 [3] (vl (sr σ_113 a0 51 (some b_27)) (fun σ_114 => nwa σ_114 105 171 (fun b_28 σ_115 => cko σ_115 a0 [3] (vl (sr σ_115 a0 52 (some b_28)) (fun σ_116 => some σ_116)))))))))))))))))))))))))))))))))))))))))))))))))))))))))))))))))))))))))))))))))))))))))))))))))))))))))))))))))))))))))))))))))))))))))))))))))))))))))))))))))))))))))))))))))))))))))))))))))))))))))))
abbrev P_X3_init (l : Launch) (d n0 s0 : Nat) : vX → Prop := vMP l yX3_init cX3_init 1 none d n0 s0
theorem w_X3_init {l : Launch} {d n0 s0 : Nat} (hd : 0 ≤ d) (σ : vMem) (a0 : Nat) : V (P_X3_init l d n0 s0) (vEmb eV) σ 0 [some (.ref a0)] [] (f_X3_init σ a0) := by
  have hC : vPx (P_X3_init l d n0 s0) cX3_init 1 "NobodyBeenAftModel" none d := vMP_cx
  refine V_eq (f_X3_init.eq_1 ..) ?_
  refine V_aload_n hC dX3_init_0 rfl ?_
  refine V_objInit hC dX3_init_1 q1275 q120 q121 (Nat.le_of_ble_eq_true rfl) ?_
  refine V_aload_n hC dX3_init_4 rfl ?_
  refine V_bipush (v := 40) hC dX3_init_5 rfl ?_
  refine V_newa_long hC dX3_init_7 q275 (fun b σ_1 => ?_)
  refine p_X3_9 hC dX3_init_9 (fun X hX => (vMP_n X hX).trans rfl) (fun σ_2 => ?_)
  refine V_aload_n hC dX3_init_12 rfl ?_
  refine V_iconst (v := 2) hC dX3_init_13 rfl ?_
  refine p_X3_13 hC dX3_init_14 (fun σ_3 => ?_)
  refine V_aload_n hC dX3_init_17 rfl ?_
  refine V_bipush (v := 10) hC dX3_init_18 rfl ?_
  refine V_newa_int hC dX3_init_20 q172 (fun b_1 σ_4 => ?_)
  refine p_X3_17 hC dX3_init_22 (fun X hX => (vMP_n X hX).trans rfl) (fun σ_5 => ?_)
  refine V_aload_n hC dX3_init_25 rfl ?_
  refine V_bipush (v := 10) hC dX3_init_26 rfl ?_
  refine V_newa_boolean hC dX3_init_28 q276 (fun b_2 σ_6 => ?_)
  refine p_X3_21 hC dX3_init_30 (fun X hX => (vMP_n X hX).trans rfl) (fun σ_7 => ?_)
  refine V_aload_n hC dX3_init_33 rfl ?_
  refine V_bipush (v := 16) hC dX3_init_34 rfl ?_
  refine V_newa_int hC dX3_init_36 q172 (fun b_3 σ_8 => ?_)
  refine p_X3_25 hC dX3_init_38 (fun X hX => (vMP_n X hX).trans rfl) (fun σ_9 => ?_)
  refine V_aload_n hC dX3_init_41 rfl ?_
  refine V_bipush (v := 16) hC dX3_init_42 rfl ?_
  refine V_newa_int hC dX3_init_44 q172 (fun b_4 σ_10 => ?_)
  refine p_X3_28 hC dX3_init_46 (fun X hX => (vMP_n X hX).trans rfl) (fun σ_11 => ?_)
  refine V_aload_n hC dX3_init_49 rfl ?_
  refine V_bipush (v := 8) hC dX3_init_50 rfl ?_
  refine V_newa_int hC dX3_init_52 q172 (fun b_5 σ_12 => ?_)
  refine p_X3_31 hC dX3_init_54 (fun X hX => (vMP_n X hX).trans rfl) (fun σ_13 => ?_)
  refine V_aload_n hC dX3_init_57 rfl ?_
  refine V_bipush (v := 57) hC dX3_init_58 rfl ?_
  refine V_newa_int hC dX3_init_60 q172 (fun b_6 σ_14 => ?_)
  refine V_dup hC dX3_init_62 rfl ?_
  refine V_iconst (v := 0) hC dX3_init_63 rfl ?_
  refine V_iconst (v := 0) hC dX3_init_64 rfl ?_
  refine V_iast hC dX3_init_65 (fun σ_15 => ?_)
  refine V_dup hC dX3_init_66 rfl ?_
  refine V_iconst (v := 1) hC dX3_init_67 rfl ?_
  refine V_iconst (v := 4) hC dX3_init_68 rfl ?_
  refine V_iast hC dX3_init_69 (fun σ_16 => ?_)
  refine V_dup hC dX3_init_70 rfl ?_
  refine V_iconst (v := 2) hC dX3_init_71 rfl ?_
  refine V_iconst (v := 0) hC dX3_init_72 rfl ?_
  refine V_iast hC dX3_init_73 (fun σ_17 => ?_)
  refine V_dup hC dX3_init_74 rfl ?_
  refine V_iconst (v := 3) hC dX3_init_75 rfl ?_
  refine V_iconst (v := 0) hC dX3_init_76 rfl ?_
  refine V_iast hC dX3_init_77 (fun σ_18 => ?_)
  refine V_dup hC dX3_init_78 rfl ?_
  refine V_iconst (v := 4) hC dX3_init_79 rfl ?_
  refine V_iconst (v := (-1)) hC dX3_init_80 rfl ?_
  refine V_iast hC dX3_init_81 (fun σ_19 => ?_)
  refine V_dup hC dX3_init_82 rfl ?_
  refine V_iconst (v := 5) hC dX3_init_83 rfl ?_
  refine V_iconst (v := 0) hC dX3_init_84 rfl ?_
  refine V_iast hC dX3_init_85 (fun σ_20 => ?_)
  refine V_dup hC dX3_init_86 rfl ?_
  refine V_bipush (v := 6) hC dX3_init_87 rfl ?_
  refine V_iconst (v := 0) hC dX3_init_89 rfl ?_
  refine V_iast hC dX3_init_90 (fun σ_21 => ?_)
  refine V_dup hC dX3_init_91 rfl ?_
  refine V_bipush (v := 7) hC dX3_init_92 rfl ?_
  refine V_iconst (v := 0) hC dX3_init_94 rfl ?_
  refine V_iast hC dX3_init_95 (fun σ_22 => ?_)
  refine V_dup hC dX3_init_96 rfl ?_
  refine V_bipush (v := 8) hC dX3_init_97 rfl ?_
  refine V_iconst (v := 0) hC dX3_init_99 rfl ?_
  refine V_iast hC dX3_init_100 (fun σ_23 => ?_)
  refine V_dup hC dX3_init_101 rfl ?_
  refine V_bipush (v := 9) hC dX3_init_102 rfl ?_
  refine V_iconst (v := 0) hC dX3_init_104 rfl ?_
  refine V_iast hC dX3_init_105 (fun σ_24 => ?_)
  refine V_dup hC dX3_init_106 rfl ?_
  refine V_bipush (v := 10) hC dX3_init_107 rfl ?_
  refine V_iconst (v := 0) hC dX3_init_109 rfl ?_
  refine V_iast hC dX3_init_110 (fun σ_25 => ?_)
  refine V_dup hC dX3_init_111 rfl ?_
  refine V_bipush (v := 11) hC dX3_init_112 rfl ?_
  refine V_iconst (v := 0) hC dX3_init_114 rfl ?_
  refine V_iast hC dX3_init_115 (fun σ_26 => ?_)
  refine V_dup hC dX3_init_116 rfl ?_
  refine V_bipush (v := 12) hC dX3_init_117 rfl ?_
  refine V_iconst (v := 0) hC dX3_init_119 rfl ?_
  refine V_iast hC dX3_init_120 (fun σ_27 => ?_)
  refine V_dup hC dX3_init_121 rfl ?_
  refine V_bipush (v := 13) hC dX3_init_122 rfl ?_
  refine V_iconst (v := 0) hC dX3_init_124 rfl ?_
  refine V_iast hC dX3_init_125 (fun σ_28 => ?_)
  refine V_dup hC dX3_init_126 rfl ?_
  refine V_bipush (v := 14) hC dX3_init_127 rfl ?_
  refine V_iconst (v := 0) hC dX3_init_129 rfl ?_
  refine V_iast hC dX3_init_130 (fun σ_29 => ?_)
  refine V_dup hC dX3_init_131 rfl ?_
  refine V_bipush (v := 15) hC dX3_init_132 rfl ?_
  refine V_iconst (v := 0) hC dX3_init_134 rfl ?_
  refine V_iast hC dX3_init_135 (fun σ_30 => ?_)
  refine V_dup hC dX3_init_136 rfl ?_
  refine V_bipush (v := 16) hC dX3_init_137 rfl ?_
  refine V_iconst (v := 0) hC dX3_init_139 rfl ?_
  refine V_iast hC dX3_init_140 (fun σ_31 => ?_)
  refine V_dup hC dX3_init_141 rfl ?_
  refine V_bipush (v := 17) hC dX3_init_142 rfl ?_
  refine V_iconst (v := 0) hC dX3_init_144 rfl ?_
  refine V_iast hC dX3_init_145 (fun σ_32 => ?_)
  refine V_dup hC dX3_init_146 rfl ?_
  refine V_bipush (v := 18) hC dX3_init_147 rfl ?_
  refine V_iconst (v := 0) hC dX3_init_149 rfl ?_
  refine V_iast hC dX3_init_150 (fun σ_33 => ?_)
  refine V_dup hC dX3_init_151 rfl ?_
  refine V_bipush (v := 19) hC dX3_init_152 rfl ?_
  refine V_iconst (v := 0) hC dX3_init_154 rfl ?_
  refine V_iast hC dX3_init_155 (fun σ_34 => ?_)
  refine V_dup hC dX3_init_156 rfl ?_
  refine V_bipush (v := 20) hC dX3_init_157 rfl ?_
  refine V_iconst (v := 0) hC dX3_init_159 rfl ?_
  refine V_iast hC dX3_init_160 (fun σ_35 => ?_)
  refine V_dup hC dX3_init_161 rfl ?_
  refine V_bipush (v := 21) hC dX3_init_162 rfl ?_
  refine V_iconst (v := 0) hC dX3_init_164 rfl ?_
  refine V_iast hC dX3_init_165 (fun σ_36 => ?_)
  refine V_dup hC dX3_init_166 rfl ?_
  refine V_bipush (v := 22) hC dX3_init_167 rfl ?_
  refine V_iconst (v := 0) hC dX3_init_169 rfl ?_
  refine V_iast hC dX3_init_170 (fun σ_37 => ?_)
  refine V_dup hC dX3_init_171 rfl ?_
  refine V_bipush (v := 23) hC dX3_init_172 rfl ?_
  refine V_iconst (v := 0) hC dX3_init_174 rfl ?_
  refine V_iast hC dX3_init_175 (fun σ_38 => ?_)
  refine V_dup hC dX3_init_176 rfl ?_
  refine V_bipush (v := 24) hC dX3_init_177 rfl ?_
  refine V_iconst (v := 0) hC dX3_init_179 rfl ?_
  refine V_iast hC dX3_init_180 (fun σ_39 => ?_)
  refine V_dup hC dX3_init_181 rfl ?_
  refine V_bipush (v := 25) hC dX3_init_182 rfl ?_
  refine V_iconst (v := 0) hC dX3_init_184 rfl ?_
  refine V_iast hC dX3_init_185 (fun σ_40 => ?_)
  refine V_dup hC dX3_init_186 rfl ?_
  refine V_bipush (v := 26) hC dX3_init_187 rfl ?_
  refine V_iconst (v := 0) hC dX3_init_189 rfl ?_
  refine V_iast hC dX3_init_190 (fun σ_41 => ?_)
  refine V_dup hC dX3_init_191 rfl ?_
  refine V_bipush (v := 27) hC dX3_init_192 rfl ?_
  refine V_iconst (v := 0) hC dX3_init_194 rfl ?_
  refine V_iast hC dX3_init_195 (fun σ_42 => ?_)
  refine V_dup hC dX3_init_196 rfl ?_
  refine V_bipush (v := 28) hC dX3_init_197 rfl ?_
  refine V_iconst (v := 0) hC dX3_init_199 rfl ?_
  refine V_iast hC dX3_init_200 (fun σ_43 => ?_)
  refine V_dup hC dX3_init_201 rfl ?_
  refine V_bipush (v := 29) hC dX3_init_202 rfl ?_
  refine V_iconst (v := 0) hC dX3_init_204 rfl ?_
  refine V_iast hC dX3_init_205 (fun σ_44 => ?_)
  refine V_dup hC dX3_init_206 rfl ?_
  refine V_bipush (v := 30) hC dX3_init_207 rfl ?_
  refine V_iconst (v := 0) hC dX3_init_209 rfl ?_
  refine V_iast hC dX3_init_210 (fun σ_45 => ?_)
  refine V_dup hC dX3_init_211 rfl ?_
  refine V_bipush (v := 31) hC dX3_init_212 rfl ?_
  refine V_iconst (v := 0) hC dX3_init_214 rfl ?_
  refine V_iast hC dX3_init_215 (fun σ_46 => ?_)
  refine V_dup hC dX3_init_216 rfl ?_
  refine V_bipush (v := 32) hC dX3_init_217 rfl ?_
  refine V_iconst (v := 0) hC dX3_init_219 rfl ?_
  refine V_iast hC dX3_init_220 (fun σ_47 => ?_)
  refine V_dup hC dX3_init_221 rfl ?_
  refine V_bipush (v := 33) hC dX3_init_222 rfl ?_
  refine V_iconst (v := 0) hC dX3_init_224 rfl ?_
  refine V_iast hC dX3_init_225 (fun σ_48 => ?_)
  refine V_dup hC dX3_init_226 rfl ?_
  refine V_bipush (v := 34) hC dX3_init_227 rfl ?_
  refine V_iconst (v := 0) hC dX3_init_229 rfl ?_
  refine V_iast hC dX3_init_230 (fun σ_49 => ?_)
  refine V_dup hC dX3_init_231 rfl ?_
  refine V_bipush (v := 35) hC dX3_init_232 rfl ?_
  refine V_iconst (v := 0) hC dX3_init_234 rfl ?_
  refine V_iast hC dX3_init_235 (fun σ_50 => ?_)
  refine V_dup hC dX3_init_236 rfl ?_
  refine V_bipush (v := 36) hC dX3_init_237 rfl ?_
  refine V_iconst (v := 0) hC dX3_init_239 rfl ?_
  refine V_iast hC dX3_init_240 (fun σ_51 => ?_)
  refine V_dup hC dX3_init_241 rfl ?_
  refine V_bipush (v := 37) hC dX3_init_242 rfl ?_
  refine V_iconst (v := 0) hC dX3_init_244 rfl ?_
  refine V_iast hC dX3_init_245 (fun σ_52 => ?_)
  refine V_dup hC dX3_init_246 rfl ?_
  refine V_bipush (v := 38) hC dX3_init_247 rfl ?_
  refine V_iconst (v := 0) hC dX3_init_249 rfl ?_
  refine V_iast hC dX3_init_250 (fun σ_53 => ?_)
  refine V_dup hC dX3_init_251 rfl ?_
  refine V_bipush (v := 39) hC dX3_init_252 rfl ?_
  refine V_iconst (v := 0) hC dX3_init_254 rfl ?_
  refine V_iast hC dX3_init_255 (fun σ_54 => ?_)
  refine V_dup hC dX3_init_256 rfl ?_
  refine V_bipush (v := 40) hC dX3_init_257 rfl ?_
  refine V_iconst (v := 0) hC dX3_init_259 rfl ?_
  refine V_iast hC dX3_init_260 (fun σ_55 => ?_)
  refine V_dup hC dX3_init_261 rfl ?_
  refine V_bipush (v := 41) hC dX3_init_262 rfl ?_
  refine V_iconst (v := 0) hC dX3_init_264 rfl ?_
  refine V_iast hC dX3_init_265 (fun σ_56 => ?_)
  refine V_dup hC dX3_init_266 rfl ?_
  refine V_bipush (v := 42) hC dX3_init_267 rfl ?_
  refine V_iconst (v := 0) hC dX3_init_269 rfl ?_
  refine V_iast hC dX3_init_270 (fun σ_57 => ?_)
  refine V_dup hC dX3_init_271 rfl ?_
  refine V_bipush (v := 43) hC dX3_init_272 rfl ?_
  refine V_iconst (v := 0) hC dX3_init_274 rfl ?_
  refine V_iast hC dX3_init_275 (fun σ_58 => ?_)
  refine V_dup hC dX3_init_276 rfl ?_
  refine V_bipush (v := 44) hC dX3_init_277 rfl ?_
  refine V_iconst (v := 0) hC dX3_init_279 rfl ?_
  refine V_iast hC dX3_init_280 (fun σ_59 => ?_)
  refine V_dup hC dX3_init_281 rfl ?_
  refine V_bipush (v := 45) hC dX3_init_282 rfl ?_
  refine V_iconst (v := 0) hC dX3_init_284 rfl ?_
  refine V_iast hC dX3_init_285 (fun σ_60 => ?_)
  refine V_dup hC dX3_init_286 rfl ?_
  refine V_bipush (v := 46) hC dX3_init_287 rfl ?_
  refine V_iconst (v := 0) hC dX3_init_289 rfl ?_
  refine V_iast hC dX3_init_290 (fun σ_61 => ?_)
  refine V_dup hC dX3_init_291 rfl ?_
  refine V_bipush (v := 47) hC dX3_init_292 rfl ?_
  refine V_iconst (v := 0) hC dX3_init_294 rfl ?_
  refine V_iast hC dX3_init_295 (fun σ_62 => ?_)
  refine V_dup hC dX3_init_296 rfl ?_
  refine V_bipush (v := 48) hC dX3_init_297 rfl ?_
  refine V_iconst (v := 0) hC dX3_init_299 rfl ?_
  refine V_iast hC dX3_init_300 (fun σ_63 => ?_)
  refine V_dup hC dX3_init_301 rfl ?_
  refine V_bipush (v := 49) hC dX3_init_302 rfl ?_
  refine V_iconst (v := 0) hC dX3_init_304 rfl ?_
  refine V_iast hC dX3_init_305 (fun σ_64 => ?_)
  refine V_dup hC dX3_init_306 rfl ?_
  refine V_bipush (v := 50) hC dX3_init_307 rfl ?_
  refine V_iconst (v := 0) hC dX3_init_309 rfl ?_
  refine V_iast hC dX3_init_310 (fun σ_65 => ?_)
  refine V_dup hC dX3_init_311 rfl ?_
  refine V_bipush (v := 51) hC dX3_init_312 rfl ?_
  refine V_iconst (v := 0) hC dX3_init_314 rfl ?_
  refine V_iast hC dX3_init_315 (fun σ_66 => ?_)
  refine V_dup hC dX3_init_316 rfl ?_
  refine V_bipush (v := 52) hC dX3_init_317 rfl ?_
  refine V_iconst (v := 0) hC dX3_init_319 rfl ?_
  refine V_iast hC dX3_init_320 (fun σ_67 => ?_)
  refine V_dup hC dX3_init_321 rfl ?_
  refine V_bipush (v := 53) hC dX3_init_322 rfl ?_
  refine V_iconst (v := 0) hC dX3_init_324 rfl ?_
  refine V_iast hC dX3_init_325 (fun σ_68 => ?_)
  refine V_dup hC dX3_init_326 rfl ?_
  refine V_bipush (v := 54) hC dX3_init_327 rfl ?_
  refine V_iconst (v := 0) hC dX3_init_329 rfl ?_
  refine V_iast hC dX3_init_330 (fun σ_69 => ?_)
  refine V_dup hC dX3_init_331 rfl ?_
  refine V_bipush (v := 55) hC dX3_init_332 rfl ?_
  refine V_iconst (v := 0) hC dX3_init_334 rfl ?_
  refine V_iast hC dX3_init_335 (fun σ_70 => ?_)
  refine V_dup hC dX3_init_336 rfl ?_
  refine V_bipush (v := 56) hC dX3_init_337 rfl ?_
  refine V_iconst (v := 0) hC dX3_init_339 rfl ?_
  refine V_iast hC dX3_init_340 (fun σ_71 => ?_)
  refine p_X3_34 hC dX3_init_341 (fun X hX => (vMP_n X hX).trans rfl) (fun σ_72 => ?_)
  refine V_aload_n hC dX3_init_344 rfl ?_
  refine V_bipush (v := 57) hC dX3_init_345 rfl ?_
  refine V_newa_int hC dX3_init_347 q172 (fun b_7 σ_73 => ?_)
  refine p_X3_37 hC dX3_init_349 (fun X hX => (vMP_n X hX).trans rfl) (fun σ_74 => ?_)
  refine V_aload_n hC dX3_init_352 rfl ?_
  refine V_bipush (v := 80) hC dX3_init_353 rfl ?_
  refine V_newa_int hC dX3_init_355 q172 (fun b_8 σ_75 => ?_)
  refine p_X3_40 hC dX3_init_357 (fun X hX => (vMP_n X hX).trans rfl) (fun σ_76 => ?_)
  refine V_aload_n hC dX3_init_360 rfl ?_
  refine V_bipush (v := 32) hC dX3_init_361 rfl ?_
  refine V_newa_int hC dX3_init_363 q172 (fun b_9 σ_77 => ?_)
  refine p_X3_43 hC dX3_init_365 (fun X hX => (vMP_n X hX).trans rfl) (fun σ_78 => ?_)
  refine V_aload_n hC dX3_init_368 rfl ?_
  refine V_bipush (v := 80) hC dX3_init_369 rfl ?_
  refine V_newa_int hC dX3_init_371 q172 (fun b_10 σ_79 => ?_)
  refine p_X3_46 hC dX3_init_373 (fun X hX => (vMP_n X hX).trans rfl) (fun σ_80 => ?_)
  refine V_aload_n hC dX3_init_376 rfl ?_
  refine V_bipush (v := 80) hC dX3_init_377 rfl ?_
  refine V_newa_int hC dX3_init_379 q172 (fun b_11 σ_81 => ?_)
  refine p_X3_49 hC dX3_init_381 (fun X hX => (vMP_n X hX).trans rfl) (fun σ_82 => ?_)
  refine V_aload_n hC dX3_init_384 rfl ?_
  refine V_bipush (v := 80) hC dX3_init_385 rfl ?_
  refine V_newa_int hC dX3_init_387 q172 (fun b_12 σ_83 => ?_)
  refine p_X3_52 hC dX3_init_389 (fun X hX => (vMP_n X hX).trans rfl) (fun σ_84 => ?_)
  refine V_aload_n hC dX3_init_392 rfl ?_
  refine V_iconst (v := 4) hC dX3_init_393 rfl ?_
  refine V_newa_int hC dX3_init_394 q172 (fun b_13 σ_85 => ?_)
  refine p_X3_55 hC dX3_init_396 (fun X hX => (vMP_n X hX).trans rfl) (fun σ_86 => ?_)
  refine V_aload_n hC dX3_init_399 rfl ?_
  refine V_sipush (v := 912) hC dX3_init_400 rfl ?_
  refine V_newa_int hC dX3_init_403 q172 (fun b_14 σ_87 => ?_)
  refine p_X3_58 hC dX3_init_405 (fun X hX => (vMP_n X hX).trans rfl) (fun σ_88 => ?_)
  refine V_aload_n hC dX3_init_408 rfl ?_
  refine V_bipush (v := 60) hC dX3_init_409 rfl ?_
  refine V_newa_int hC dX3_init_411 q172 (fun b_15 σ_89 => ?_)
  refine p_X3_61 hC dX3_init_413 (fun X hX => (vMP_n X hX).trans rfl) (fun σ_90 => ?_)
  refine V_aload_n hC dX3_init_416 rfl ?_
  refine V_bipush (v := 60) hC dX3_init_417 rfl ?_
  refine V_newa_int hC dX3_init_419 q172 (fun b_16 σ_91 => ?_)
  refine p_X3_64 hC dX3_init_421 (fun X hX => (vMP_n X hX).trans rfl) (fun σ_92 => ?_)
  refine V_aload_n hC dX3_init_424 rfl ?_
  refine V_bipush (v := 30) hC dX3_init_425 rfl ?_
  refine V_newa_int hC dX3_init_427 q172 (fun b_17 σ_93 => ?_)
  refine p_X3_67 hC dX3_init_429 (fun X hX => (vMP_n X hX).trans rfl) (fun σ_94 => ?_)
  refine V_aload_n hC dX3_init_432 rfl ?_
  refine V_bipush (v := 9) hC dX3_init_433 rfl ?_
  refine V_newa_int hC dX3_init_435 q172 (fun b_18 σ_95 => ?_)
  refine p_X3_70 hC dX3_init_437 (fun X hX => (vMP_n X hX).trans rfl) (fun σ_96 => ?_)
  refine V_aload_n hC dX3_init_440 rfl ?_
  refine V_bipush (v := 9) hC dX3_init_441 rfl ?_
  refine V_newa_int hC dX3_init_443 q172 (fun b_19 σ_97 => ?_)
  refine p_X3_73 hC dX3_init_445 (fun X hX => (vMP_n X hX).trans rfl) (fun σ_98 => ?_)
  refine V_aload_n hC dX3_init_448 rfl ?_
  refine V_sipush (v := 14409) hC dX3_init_449 rfl ?_
  refine V_newa_int hC dX3_init_452 q172 (fun b_20 σ_99 => ?_)
  refine p_X3_76 hC dX3_init_454 (fun X hX => (vMP_n X hX).trans rfl) (fun σ_100 => ?_)
  refine V_aload_n hC dX3_init_457 rfl ?_
  refine V_bipush (v := 12) hC dX3_init_458 rfl ?_
  refine V_newa_int hC dX3_init_460 q172 (fun b_21 σ_101 => ?_)
  refine p_X3_79 hC dX3_init_462 (fun X hX => (vMP_n X hX).trans rfl) (fun σ_102 => ?_)
  refine V_aload_n hC dX3_init_465 rfl ?_
  refine V_bipush (v := 12) hC dX3_init_466 rfl ?_
  refine V_newa_int hC dX3_init_468 q172 (fun b_22 σ_103 => ?_)
  refine p_X3_82 hC dX3_init_470 (fun X hX => (vMP_n X hX).trans rfl) (fun σ_104 => ?_)
  refine V_aload_n hC dX3_init_473 rfl ?_
  refine V_sipush (v := 225) hC dX3_init_474 rfl ?_
  refine V_newa_int hC dX3_init_477 q172 (fun b_23 σ_105 => ?_)
  refine p_X3_85 hC dX3_init_479 (fun X hX => (vMP_n X hX).trans rfl) (fun σ_106 => ?_)
  refine V_aload_n hC dX3_init_482 rfl ?_
  refine V_sipush (v := 225) hC dX3_init_483 rfl ?_
  refine V_newa_boolean hC dX3_init_486 q276 (fun b_24 σ_107 => ?_)
  refine p_X3_88 hC dX3_init_488 (fun X hX => (vMP_n X hX).trans rfl) (fun σ_108 => ?_)
  refine V_aload_n hC dX3_init_491 rfl ?_
  refine V_sipush (v := 225) hC dX3_init_492 rfl ?_
  refine V_newa_boolean hC dX3_init_495 q276 (fun b_25 σ_109 => ?_)
  refine p_X3_91 hC dX3_init_497 (fun X hX => (vMP_n X hX).trans rfl) (fun σ_110 => ?_)
  refine V_aload_n hC dX3_init_500 rfl ?_
  refine V_iconst (v := 3) hC dX3_init_501 rfl ?_
  refine V_newa_boolean hC dX3_init_502 q276 (fun b_26 σ_111 => ?_)
  refine p_X3_94 hC dX3_init_504 (fun X hX => (vMP_n X hX).trans rfl) (fun σ_112 => ?_)
  refine V_aload_n hC dX3_init_507 rfl ?_
  refine V_iconst (v := 3) hC dX3_init_508 rfl ?_
  refine V_newa_int hC dX3_init_509 q172 (fun b_27 σ_113 => ?_)
  refine p_X3_97 hC dX3_init_511 (fun X hX => (vMP_n X hX).trans rfl) (fun σ_114 => ?_)
  refine V_aload_n hC dX3_init_514 rfl ?_
  refine V_sipush (v := 171) hC dX3_init_515 rfl ?_
  refine V_newa_int hC dX3_init_518 q172 (fun b_28 σ_115 => ?_)
  refine p_X3_100 hC dX3_init_520 (fun X hX => (vMP_n X hX).trans rfl) (fun σ_116 => ?_)
  exact V_return dX3_init_523 rfl rfl
theorem c_X3_init {l : Launch} {d : Nat} (hd : 0 ≤ d) {σ : vMem} {a0 : Nat} {r : vMem} (h : f_X3_init σ a0 = some r) : vOk l yX3_init cX3_init 1 none d [.ref a0] σ (.inl ((eV).1 r, (eV).2 r)) := V_method (em := eV) [some (.ref a0)] (by decide +kernel) rfl (Nat.le_of_ble_eq_true rfl) (w_X3_init hd σ a0) h
/-! NobodyBeenAftModel.thrown()I -/
def f_X3_thrown (σ : vMem) (a0 : Nat) : Option (Int32) := cko σ a0 [3] (some (gi σ a0 0))
abbrev P_X3_thrown (l : Launch) (d n0 s0 : Nat) : vX → Prop := vMP l yX3_thrown cX3_thrown 1 (some .int) d n0 s0
theorem w_X3_thrown {l : Launch} {d n0 s0 : Nat} (hd : 0 ≤ d) (σ : vMem) (a0 : Nat) : V (P_X3_thrown l d n0 s0) (vEmb (ePI σ)) σ 0 [some (.ref a0)] [] (f_X3_thrown σ a0) := by
  have hC : vPx (P_X3_thrown l d n0 s0) cX3_thrown 1 "NobodyBeenAftModel" (some .int) d := vMP_cx
  refine V_eq (f_X3_thrown.eq_1 ..) ?_
  refine V_aload_n hC dX3_thrown_0 rfl ?_
  refine g_X3_103 hC dX3_thrown_1 ?_
  exact V_ireturn dX3_thrown_4 rfl rfl
theorem c_X3_thrown {l : Launch} {d : Nat} (hd : 0 ≤ d) {σ : vMem} {a0 : Nat} {r : Int32} (h : f_X3_thrown σ a0 = some r) : vOk l yX3_thrown cX3_thrown 1 (some .int) d [.ref a0] σ (.inl (((ePI σ)).1 r, ((ePI σ)).2 r)) := V_method (em := (ePI σ)) [some (.ref a0)] (by decide +kernel) rfl (Nat.le_of_ble_eq_true rfl) (w_X3_thrown hd σ a0) h
/-! NobodyBeenAftModel.sign(I)I -/
def f_X3_sign_18 (a0 : Nat) (x1 : Int32) (k : vMem → Option (Int32 × vMem)) : Nat → vMem → Int32 → Option (Int32 × vMem)
  | 0, _, _ => none
  | n + 1, σ_4, v2 => if 4 ≤ v2 then (k σ_4) else cko σ_4 a0 [3] (dr (gr σ_4 a0 16) (fun b => cko σ_4 a0 [3] (cka σ_4 b 105 ((gi σ_4 a0 17) + v2) (vl (si σ_4 b (Int32.toNatClampNeg ((gi σ_4 a0 17) + v2)) ((x1 >>> ((24 - (8 * v2)) &&& 31)) &&& 255)) (fun σ_5 => vl (v2 + 1) (fun v2_1 => f_X3_sign_18 a0 x1 k n σ_5 v2_1))))))
def f_X3_sign (σ : vMem) (a0 : Nat) (x1 : Int32) : Option (Int32 × vMem) := cko σ a0 [3] (vl (si σ a0 0 0) (fun σ_1 => cko σ_1 a0 [3] (if (gi σ_1 a0 17) ≤ 76 then (vl (fun (σ_2 : vMem) => cko σ_2 a0 [3] (cko σ_2 a0 [3] (vl (si σ_2 a0 17 ((gi σ_2 a0 17) + 4)) (fun σ_3 => cko σ_3 a0 [3] (some ((gi σ_3 a0 17), σ_3)))))) (fun k => f_X3_sign_18 a0 x1 k FU σ_1 0)) else some ((-1), σ_1))))
abbrev P_X3_sign (l : Launch) (d n0 s0 : Nat) : vX → Prop := vMP l yX3_sign cX3_sign 3 (some .int) d n0 s0
theorem w_X3_sign_18 {l : Launch} {d n0 s0 : Nat} (hd : 0 ≤ d) (a0 : Nat) (x1 : Int32) (k : vMem → Option (Int32 × vMem)) (hk : ∀ (σ_2 : vMem), V (P_X3_sign l d n0 s0) (vEmb eI) σ_2 53 [some (.ref a0), none, none] [] (k σ_2)) : ∀ (n : Nat) (σ_4 : vMem) (v2 : Int32), V (P_X3_sign l d n0 s0) (vEmb eI) σ_4 18 [some (.ref a0), some (.int x1), some (.int v2)] [] (f_X3_sign_18 a0 x1 k n σ_4 v2) := by
  have hC : vPx (P_X3_sign l d n0 s0) cX3_sign 3 "NobodyBeenAftModel" (some .int) d := vMP_cx
  intro n
  induction n with
  | zero =>
    intro σ_4 v2
    exact V_none
  | succ n ih =>
    intro σ_4 v2
    refine V_eq (f_X3_sign_18.eq_2 ..) ?_
    refine V_iload_n hC dX3_sign_18 rfl ?_
    refine V_iconst (v := 4) hC dX3_sign_19 rfl ?_
    refine V_icmp_ge (tgt := 53) hC dX3_sign_20 (by decide) ?_ ?_
    · refine V_clr [1, 2] (ls' := [some (.ref a0), none, none]) rfl ?_
      exact hk σ_4
    · refine V_aload_n hC dX3_sign_23 rfl ?_
      refine g_X3_40 hC dX3_sign_24 (fun b => ?_)
      refine V_aload_n hC dX3_sign_27 rfl ?_
      refine g_X3_124 hC dX3_sign_28 ?_
      refine V_iload_n hC dX3_sign_31 rfl ?_
      refine V_iadd hC dX3_sign_32 ?_
      refine V_iload_n hC dX3_sign_33 rfl ?_
      refine V_bipush (v := 24) hC dX3_sign_34 rfl ?_
      refine V_bipush (v := 8) hC dX3_sign_36 rfl ?_
      refine V_iload_n hC dX3_sign_38 rfl ?_
      refine V_imul hC dX3_sign_39 ?_
      refine V_isub hC dX3_sign_40 ?_
      refine V_ishr hC dX3_sign_41 ?_
      refine V_sipush (v := 255) hC dX3_sign_42 rfl ?_
      refine V_iand hC dX3_sign_45 ?_
      refine V_iast hC dX3_sign_46 (fun σ_5 => ?_)
      refine V_iincL (v := v2 + 1) (ls' := fun v2_1 => [some (.ref a0), some (.int x1), some (.int v2_1)]) hC dX3_sign_47 rfl (by decide) rfl rfl (fun _ => rfl) (fun v2_1 => ?_)
      refine V_goto (tgt := 18) hC dX3_sign_50 (by decide) ?_
      exact ih σ_5 v2_1
theorem w_X3_sign {l : Launch} {d n0 s0 : Nat} (hd : 0 ≤ d) (σ : vMem) (a0 : Nat) (x1 : Int32) : V (P_X3_sign l d n0 s0) (vEmb eI) σ 0 [some (.ref a0), some (.int x1), none] [] (f_X3_sign σ a0 x1) := by
  have hC : vPx (P_X3_sign l d n0 s0) cX3_sign 3 "NobodyBeenAftModel" (some .int) d := vMP_cx
  refine V_eq (f_X3_sign.eq_1 ..) ?_
  refine V_aload_n hC dX3_sign_0 rfl ?_
  refine V_iconst (v := 0) hC dX3_sign_1 rfl ?_
  refine p_X3_103 hC dX3_sign_2 (fun σ_1 => ?_)
  refine V_aload_n hC dX3_sign_5 rfl ?_
  refine g_X3_124 hC dX3_sign_6 ?_
  refine V_bipush (v := 76) hC dX3_sign_9 rfl ?_
  refine V_icmp_le (tgt := 16) hC dX3_sign_11 (by decide) ?_ ?_
  · refine V_iconst (v := 0) hC dX3_sign_16 rfl ?_
    refine V_istore_n (ls' := [some (.ref a0), some (.int x1), some (.int 0)]) hC dX3_sign_17 (by decide) rfl rfl ?_
    refine V_let (B := fun k => ∀ (σ_2 : vMem), V (P_X3_sign l d n0 s0) (vEmb eI) σ_2 53 [some (.ref a0), none, none] [] (k σ_2)) ?_ ?_
    · intro σ_2
      refine V_aload_n hC dX3_sign_53 rfl ?_
      refine V_dup hC dX3_sign_54 rfl ?_
      refine g_X3_124 hC dX3_sign_55 ?_
      refine V_iconst (v := 4) hC dX3_sign_58 rfl ?_
      refine V_iadd hC dX3_sign_59 ?_
      refine p_X3_124 hC dX3_sign_60 (fun σ_3 => ?_)
      refine V_aload_n hC dX3_sign_63 rfl ?_
      refine g_X3_124 hC dX3_sign_64 ?_
      exact V_ireturn dX3_sign_67 rfl rfl
    · intro k hk
      exact (w_X3_sign_18 hd a0 x1 k hk) FU σ_1 0
  · refine V_iconst (v := (-1)) hC dX3_sign_14 rfl ?_
    exact V_ireturn dX3_sign_15 rfl rfl
theorem c_X3_sign {l : Launch} {d : Nat} (hd : 0 ≤ d) {σ : vMem} {a0 : Nat} {x1 : Int32} {r : Int32 × vMem} (h : f_X3_sign σ a0 x1 = some r) : vOk l yX3_sign cX3_sign 3 (some .int) d [.ref a0, .int x1] σ (.inl ((eI).1 r, (eI).2 r)) := V_method (em := eI) [some (.ref a0), some (.int x1), none] (by decide +kernel) rfl (Nat.le_of_ble_eq_true rfl) (w_X3_sign hd σ a0 x1) h
/-! NobodyBeenAftModel.in(JJJ)Z -/
def f_X3_in (σ : vMem) (x0 : Int64) (x2 : Int64) (x4 : Int64) : Option (Int32) := vl (some 0) (fun k => if (lg_cmp x0 x2) < 0 then k else if 0 < (lg_cmp x0 x4) then k else some 1)
abbrev P_X3_in (l : Launch) (d n0 s0 : Nat) : vX → Prop := vMP l yX3_in cX3_in 6 (some .boolean) d n0 s0
theorem w_X3_in {l : Launch} {d n0 s0 : Nat} (hd : 0 ≤ d) (σ : vMem) (x0 : Int64) (x2 : Int64) (x4 : Int64) : V (P_X3_in l d n0 s0) (vEmb (ePI σ)) σ 0 [some (.long x0), none, some (.long x2), none, some (.long x4), none] [] (f_X3_in σ x0 x2 x4) := by
  have hC : vPx (P_X3_in l d n0 s0) cX3_in 6 "NobodyBeenAftModel" (some .boolean) d := vMP_cx
  refine V_eq (f_X3_in.eq_1 ..) ?_
  refine V_lload_n hC dX3_in_0 rfl ?_
  refine V_lload_n hC dX3_in_1 rfl ?_
  refine V_lcmp hC dX3_in_2 ?_
  refine V_let (B := fun k => V (P_X3_in l d n0 s0) (vEmb (ePI σ)) σ 17 [none, none, none, none, none, none] [] (k)) ?_ ?_
  · skip
    refine V_iconst (v := 0) hC dX3_in_17 rfl ?_
    exact V_zreturn rfl dX3_in_18 rfl rfl
  · intro k hk
    refine V_if_lt (tgt := 17) hC dX3_in_3 (by decide) ?_ ?_
    · refine V_clr [0, 2, 4] (ls' := [none, none, none, none, none, none]) rfl ?_
      exact hk
    · refine V_lload_n hC dX3_in_6 rfl ?_
      refine V_lload hC dX3_in_7 rfl ?_
      refine V_lcmp hC dX3_in_9 ?_
      refine V_if_gt (tgt := 17) hC dX3_in_10 (by decide) ?_ ?_
      · refine V_clr [0, 2, 4] (ls' := [none, none, none, none, none, none]) rfl ?_
        exact hk
      · refine V_iconst (v := 1) hC dX3_in_13 rfl ?_
        refine V_goto (tgt := 18) hC dX3_in_14 (by decide) ?_
        exact V_zreturn rfl dX3_in_18 rfl rfl
theorem c_X3_in {l : Launch} {d : Nat} (hd : 0 ≤ d) {σ : vMem} {x0 : Int64} {x2 : Int64} {x4 : Int64} {r : Int32} (h : f_X3_in σ x0 x2 x4 = some r) : vOk l yX3_in cX3_in 6 (some .boolean) d [.long x0, .long x2, .long x4] σ (.inl (((ePI σ)).1 r, ((ePI σ)).2 r)) := V_method (em := (ePI σ)) [some (.long x0), none, some (.long x2), none, some (.long x4), none] (by decide +kernel) rfl (Nat.le_of_ble_eq_true rfl) (w_X3_in hd σ x0 x2 x4) h
/-! NobodyBeenAftModel.end(I)Z -/
def f_X3_end (σ : vMem) (a0 : Nat) (x1 : Int32) : Option (Int32 × vMem) := cko σ a0 [3] (vl (si σ a0 0 0) (fun σ_1 => cko σ_1 a0 [3] (bp (f_X3_in σ_1 (Int32.toInt64 x1) 0 (Int32.toInt64 (gi σ_1 a0 17))) (fun r => if ¬ r = 0 then (cko σ_1 a0 [3] (vl (si σ_1 a0 17 x1) (fun σ_2 => some (1, σ_2)))) else some (0, σ_1)))))
abbrev P_X3_end (l : Launch) (d n0 s0 : Nat) : vX → Prop := vMP l yX3_end cX3_end 2 (some .boolean) d n0 s0
theorem w_X3_end {l : Launch} {d n0 s0 : Nat} (hd : 1 ≤ d) (σ : vMem) (a0 : Nat) (x1 : Int32) : V (P_X3_end l d n0 s0) (vEmb eI) σ 0 [some (.ref a0), some (.int x1)] [] (f_X3_end σ a0 x1) := by
  have hC : vPx (P_X3_end l d n0 s0) cX3_end 2 "NobodyBeenAftModel" (some .boolean) d := vMP_cx
  refine V_eq (f_X3_end.eq_1 ..) ?_
  refine V_aload_n hC dX3_end_0 rfl ?_
  refine V_iconst (v := 0) hC dX3_end_1 rfl ?_
  refine p_X3_103 hC dX3_end_2 (fun σ_1 => ?_)
  refine V_iload_n hC dX3_end_5 rfl ?_
  refine V_i2l hC dX3_end_6 ?_
  refine V_lconst (v := 0) hC dX3_end_7 rfl ?_
  refine V_aload_n hC dX3_end_8 rfl ?_
  refine g_X3_124 hC dX3_end_9 ?_
  refine V_i2l hC dX3_end_12 ?_
  refine V_callS_PI (As := [.long (Int32.toInt64 x1), .long 0, .long (Int32.toInt64 (gi σ_1 a0 17))]) (rest := []) (d' := 0) hC dX3_end_13 3 (lw_S q1448 q1449 q87 q1450) (by decide +kernel) rfl rfl (Nat.le_of_ble_eq_true rfl) (Nat.le_trans (by decide) hd) (by decide) vMP_l (fun _ h => c_X3_in (Nat.le_refl _) h) (fun r => ?_)
  refine V_if_ne (tgt := 21) hC dX3_end_16 (by decide) ?_ ?_
  · refine V_aload_n hC dX3_end_21 rfl ?_
    refine V_iload_n hC dX3_end_22 rfl ?_
    refine p_X3_124 hC dX3_end_23 (fun σ_2 => ?_)
    refine V_iconst (v := 1) hC dX3_end_26 rfl ?_
    exact V_zreturn rfl dX3_end_27 rfl rfl
  · refine V_iconst (v := 0) hC dX3_end_19 rfl ?_
    exact V_zreturn rfl dX3_end_20 rfl rfl
theorem c_X3_end {l : Launch} {d : Nat} (hd : 1 ≤ d) {σ : vMem} {a0 : Nat} {x1 : Int32} {r : Int32 × vMem} (h : f_X3_end σ a0 x1 = some r) : vOk l yX3_end cX3_end 2 (some .boolean) d [.ref a0, .int x1] σ (.inl ((eI).1 r, (eI).2 r)) := V_method (em := eI) [some (.ref a0), some (.int x1)] (by decide +kernel) rfl (Nat.le_of_ble_eq_true rfl) (w_X3_end hd σ a0 x1) h
/-! NobodyBeenAftModel.begins(I)I -/
def f_X3_begins (σ : vMem) (a0 : Nat) (x1 : Int32) : Option (Int32 × vMem) := cko σ a0 [3] (vl (gi σ a0 17) (fun v2 => cko σ a0 [3] (vl (si σ a0 17 0) (fun σ_1 => cko σ_1 a0 [3] (vl (si σ_1 a0 18 0) (fun σ_2 => cko σ_2 a0 [3] (vl (si σ_2 a0 20 0) (fun σ_3 => cko σ_3 a0 [3] (vl (si σ_3 a0 19 (imin v2 x1)) (fun σ_4 => some (v2, σ_4)))))))))))
abbrev P_X3_begins (l : Launch) (d n0 s0 : Nat) : vX → Prop := vMP l yX3_begins cX3_begins 3 (some .int) d n0 s0
theorem w_X3_begins {l : Launch} {d n0 s0 : Nat} (hd : 0 ≤ d) (σ : vMem) (a0 : Nat) (x1 : Int32) : V (P_X3_begins l d n0 s0) (vEmb eI) σ 0 [some (.ref a0), some (.int x1), none] [] (f_X3_begins σ a0 x1) := by
  have hC : vPx (P_X3_begins l d n0 s0) cX3_begins 3 "NobodyBeenAftModel" (some .int) d := vMP_cx
  refine V_eq (f_X3_begins.eq_1 ..) ?_
  refine V_aload_n hC dX3_begins_0 rfl ?_
  refine g_X3_124 hC dX3_begins_1 ?_
  refine V_istore_nL (ls' := fun v2 => [some (.ref a0), some (.int x1), some (.int v2)]) hC dX3_begins_4 (by decide) rfl (fun _ => rfl) (fun v2 => ?_)
  refine V_aload_n hC dX3_begins_5 rfl ?_
  refine V_iconst (v := 0) hC dX3_begins_6 rfl ?_
  refine p_X3_124 hC dX3_begins_7 (fun σ_1 => ?_)
  refine V_aload_n hC dX3_begins_10 rfl ?_
  refine V_iconst (v := 0) hC dX3_begins_11 rfl ?_
  refine p_X3_127 hC dX3_begins_12 (fun σ_2 => ?_)
  refine V_aload_n hC dX3_begins_15 rfl ?_
  refine V_iconst (v := 0) hC dX3_begins_16 rfl ?_
  refine p_X3_130 hC dX3_begins_17 (fun σ_3 => ?_)
  refine V_aload_n hC dX3_begins_20 rfl ?_
  refine V_iload_n hC dX3_begins_21 rfl ?_
  refine V_iload_n hC dX3_begins_22 rfl ?_
  refine V_mmin hC dX3_begins_23 q1459 q327 q90 q328 (Nat.le_of_ble_eq_true rfl) ?_
  refine p_X3_139 hC dX3_begins_26 (fun σ_4 => ?_)
  refine V_iload_n hC dX3_begins_29 rfl ?_
  exact V_ireturn dX3_begins_30 rfl rfl
theorem c_X3_begins {l : Launch} {d : Nat} (hd : 0 ≤ d) {σ : vMem} {a0 : Nat} {x1 : Int32} {r : Int32 × vMem} (h : f_X3_begins σ a0 x1 = some r) : vOk l yX3_begins cX3_begins 3 (some .int) d [.ref a0, .int x1] σ (.inl ((eI).1 r, (eI).2 r)) := V_method (em := eI) [some (.ref a0), some (.int x1), none] (by decide +kernel) rfl (Nat.le_of_ble_eq_true rfl) (w_X3_begins hd σ a0 x1) h
/-! NobodyBeenAftModel.isDigit()Z -/
def f_X3_isDigit (σ : vMem) (a0 : Nat) : Option (Int32) := cko σ a0 [3] (cko σ a0 [3] (vl (some 0) (fun k => if (gi σ a0 19) ≤ (gi σ a0 18) then k else cko σ a0 [3] (dr (gr σ a0 16) (fun b => cko σ a0 [3] (cka σ b 105 (gi σ a0 18) (bp (f_X3_in σ (Int32.toInt64 (gi σ b (Int32.toNatClampNeg (gi σ a0 18)))) 48 57) (fun r => if r = 0 then k else some 1))))))))
abbrev P_X3_isDigit (l : Launch) (d n0 s0 : Nat) : vX → Prop := vMP l yX3_isDigit cX3_isDigit 1 (some .boolean) d n0 s0
theorem w_X3_isDigit {l : Launch} {d n0 s0 : Nat} (hd : 1 ≤ d) (σ : vMem) (a0 : Nat) : V (P_X3_isDigit l d n0 s0) (vEmb (ePI σ)) σ 0 [some (.ref a0)] [] (f_X3_isDigit σ a0) := by
  have hC : vPx (P_X3_isDigit l d n0 s0) cX3_isDigit 1 "NobodyBeenAftModel" (some .boolean) d := vMP_cx
  refine V_eq (f_X3_isDigit.eq_1 ..) ?_
  refine V_aload_n hC dX3_isDigit_0 rfl ?_
  refine g_X3_127 hC dX3_isDigit_1 ?_
  refine V_aload_n hC dX3_isDigit_4 rfl ?_
  refine g_X3_139 hC dX3_isDigit_5 ?_
  refine V_let (B := fun k => V (P_X3_isDigit l d n0 s0) (vEmb (ePI σ)) σ 37 [none] [] (k)) ?_ ?_
  · skip
    refine V_iconst (v := 0) hC dX3_isDigit_37 rfl ?_
    exact V_zreturn rfl dX3_isDigit_38 rfl rfl
  · intro k hk
    refine V_icmp_ge (tgt := 37) hC dX3_isDigit_8 (by decide) ?_ ?_
    · refine V_clr [0] (ls' := [none]) rfl ?_
      exact hk
    · refine V_aload_n hC dX3_isDigit_11 rfl ?_
      refine g_X3_40 hC dX3_isDigit_12 (fun b => ?_)
      refine V_aload_n hC dX3_isDigit_15 rfl ?_
      refine g_X3_127 hC dX3_isDigit_16 ?_
      refine V_iald hC dX3_isDigit_19 ?_
      refine V_i2l hC dX3_isDigit_20 ?_
      refine V_ldc2 hC dX3_isDigit_21 q1472 ?_
      refine V_ldc2 hC dX3_isDigit_24 q1473 ?_
      refine V_callS_PI (As := [.long (Int32.toInt64 (gi σ b (Int32.toNatClampNeg (gi σ a0 18)))), .long 48, .long 57]) (rest := []) (d' := 0) hC dX3_isDigit_27 3 (lw_S q1448 q1449 q87 q1450) (by decide +kernel) rfl rfl (Nat.le_of_ble_eq_true rfl) (Nat.le_trans (by decide) hd) (by decide) vMP_l (fun _ h => c_X3_in (Nat.le_refl _) h) (fun r => ?_)
      refine V_if_eq (tgt := 37) hC dX3_isDigit_30 (by decide) ?_ ?_
      · refine V_clr [0] (ls' := [none]) rfl ?_
        exact hk
      · refine V_iconst (v := 1) hC dX3_isDigit_33 rfl ?_
        refine V_goto (tgt := 38) hC dX3_isDigit_34 (by decide) ?_
        exact V_zreturn rfl dX3_isDigit_38 rfl rfl
theorem c_X3_isDigit {l : Launch} {d : Nat} (hd : 1 ≤ d) {σ : vMem} {a0 : Nat} {r : Int32} (h : f_X3_isDigit σ a0 = some r) : vOk l yX3_isDigit cX3_isDigit 1 (some .boolean) d [.ref a0] σ (.inl (((ePI σ)).1 r, ((ePI σ)).2 r)) := V_method (em := (ePI σ)) [some (.ref a0)] (by decide +kernel) rfl (Nat.le_of_ble_eq_true rfl) (w_X3_isDigit hd σ a0) h
/-! NobodyBeenAftModel.number(I)I -/
def f_X3_number_13 (a0 : Nat) (x1 : Int32) : Nat → vMem → Int32 → Int32 → Option (Int32 × vMem)
  | 0, _, _, _ => none
  | n + 1, σ_1, v2, v3 => if x1 ≤ v3 then (some (v2, σ_1)) else cko σ_1 a0 [3] (bp (f_X3_isDigit σ_1 a0) (fun r_1 => if r_1 = 0 then (some (v2, σ_1)) else cko σ_1 a0 [3] (dr (gr σ_1 a0 16) (fun b => cko σ_1 a0 [3] (cka σ_1 b 105 (gi σ_1 a0 18) (vl (((10 * v2) + (gi σ_1 b (Int32.toNatClampNeg (gi σ_1 a0 18)))) - 48) (fun v2_1 => cko σ_1 a0 [3] (cko σ_1 a0 [3] (vl (si σ_1 a0 18 ((gi σ_1 a0 18) + 1)) (fun σ_2 => vl (v3 + 1) (fun v3_1 => f_X3_number_13 a0 x1 n σ_2 v2_1 v3_1)))))))))))
def f_X3_number (σ : vMem) (a0 : Nat) (x1 : Int32) : Option (Int32 × vMem) := cko σ a0 [3] (bp (f_X3_isDigit σ a0) (fun r => if ¬ r = 0 then (f_X3_number_13 a0 x1 FU σ 0 0) else some ((-1), σ)))
abbrev P_X3_number (l : Launch) (d n0 s0 : Nat) : vX → Prop := vMP l yX3_number cX3_number 4 (some .int) d n0 s0
theorem w_X3_number_13 {l : Launch} {d n0 s0 : Nat} (hd : 2 ≤ d) (a0 : Nat) (x1 : Int32)  : ∀ (n : Nat) (σ_1 : vMem) (v2 : Int32) (v3 : Int32), V (P_X3_number l d n0 s0) (vEmb eI) σ_1 13 [some (.ref a0), some (.int x1), some (.int v2), some (.int v3)] [] (f_X3_number_13 a0 x1 n σ_1 v2 v3) := by
  have hC : vPx (P_X3_number l d n0 s0) cX3_number 4 "NobodyBeenAftModel" (some .int) d := vMP_cx
  intro n
  induction n with
  | zero =>
    intro σ_1 v2 v3
    exact V_none
  | succ n ih =>
    intro σ_1 v2 v3
    refine V_eq (f_X3_number_13.eq_2 ..) ?_
    refine V_iload_n hC dX3_number_13 rfl ?_
    refine V_iload_n hC dX3_number_14 rfl ?_
    refine V_icmp_ge (tgt := 59) hC dX3_number_15 (by decide) ?_ ?_
    · refine V_iload_n hC dX3_number_59 rfl ?_
      exact V_ireturn dX3_number_60 rfl rfl
    · refine V_aload_n hC dX3_number_18 rfl ?_
      refine V_cko (fun hm => V_callV_PI (c := 3) (As := []) (rest := []) (d' := 1) hC dX3_number_19 0 (lw_V q1468 q1470 qs34 q87 q1471) (by decide +kernel) (List.mem_singleton.mp hm) (by decide) (by decide) rfl rfl rfl (Nat.le_of_ble_eq_true rfl) (Nat.le_trans (by decide) hd) (by decide) vMP_l (fun _ h => c_X3_isDigit (Nat.le_refl _) h) (fun r_1 => ?_))
      refine V_if_eq (tgt := 59) hC dX3_number_22 (by decide) ?_ ?_
      · refine V_iload_n hC dX3_number_59 rfl ?_
        exact V_ireturn dX3_number_60 rfl rfl
      · refine V_bipush (v := 10) hC dX3_number_25 rfl ?_
        refine V_iload_n hC dX3_number_27 rfl ?_
        refine V_imul hC dX3_number_28 ?_
        refine V_aload_n hC dX3_number_29 rfl ?_
        refine g_X3_40 hC dX3_number_30 (fun b => ?_)
        refine V_aload_n hC dX3_number_33 rfl ?_
        refine g_X3_127 hC dX3_number_34 ?_
        refine V_iald hC dX3_number_37 ?_
        refine V_iadd hC dX3_number_38 ?_
        refine V_bipush (v := 48) hC dX3_number_39 rfl ?_
        refine V_isub hC dX3_number_41 ?_
        refine V_istore_nL (ls' := fun v2_1 => [some (.ref a0), some (.int x1), some (.int v2_1), some (.int v3)]) hC dX3_number_42 (by decide) rfl (fun _ => rfl) (fun v2_1 => ?_)
        refine V_aload_n hC dX3_number_43 rfl ?_
        refine V_dup hC dX3_number_44 rfl ?_
        refine g_X3_127 hC dX3_number_45 ?_
        refine V_iconst (v := 1) hC dX3_number_48 rfl ?_
        refine V_iadd hC dX3_number_49 ?_
        refine p_X3_127 hC dX3_number_50 (fun σ_2 => ?_)
        refine V_iincL (v := v3 + 1) (ls' := fun v3_1 => [some (.ref a0), some (.int x1), some (.int v2_1), some (.int v3_1)]) hC dX3_number_53 rfl (by decide) rfl rfl (fun _ => rfl) (fun v3_1 => ?_)
        refine V_goto (tgt := 13) hC dX3_number_56 (by decide) ?_
        exact ih σ_2 v2_1 v3_1
theorem w_X3_number {l : Launch} {d n0 s0 : Nat} (hd : 2 ≤ d) (σ : vMem) (a0 : Nat) (x1 : Int32) : V (P_X3_number l d n0 s0) (vEmb eI) σ 0 [some (.ref a0), some (.int x1), none, none] [] (f_X3_number σ a0 x1) := by
  have hC : vPx (P_X3_number l d n0 s0) cX3_number 4 "NobodyBeenAftModel" (some .int) d := vMP_cx
  refine V_eq (f_X3_number.eq_1 ..) ?_
  refine V_aload_n hC dX3_number_0 rfl ?_
  refine V_cko (fun hm => V_callV_PI (c := 3) (As := []) (rest := []) (d' := 1) hC dX3_number_1 0 (lw_V q1468 q1470 qs34 q87 q1471) (by decide +kernel) (List.mem_singleton.mp hm) (by decide) (by decide) rfl rfl rfl (Nat.le_of_ble_eq_true rfl) (Nat.le_trans (by decide) hd) (by decide) vMP_l (fun _ h => c_X3_isDigit (Nat.le_refl _) h) (fun r => ?_))
  refine V_if_ne (tgt := 9) hC dX3_number_4 (by decide) ?_ ?_
  · refine V_iconst (v := 0) hC dX3_number_9 rfl ?_
    refine V_istore_n (ls' := [some (.ref a0), some (.int x1), some (.int 0), none]) hC dX3_number_10 (by decide) rfl rfl ?_
    refine V_iconst (v := 0) hC dX3_number_11 rfl ?_
    refine V_istore_n (ls' := [some (.ref a0), some (.int x1), some (.int 0), some (.int 0)]) hC dX3_number_12 (by decide) rfl rfl ?_
    exact (w_X3_number_13 hd a0 x1) FU σ 0 0
  · refine V_iconst (v := (-1)) hC dX3_number_7 rfl ?_
    exact V_ireturn dX3_number_8 rfl rfl
theorem c_X3_number {l : Launch} {d : Nat} (hd : 2 ≤ d) {σ : vMem} {a0 : Nat} {x1 : Int32} {r : Int32 × vMem} (h : f_X3_number σ a0 x1 = some r) : vOk l yX3_number cX3_number 4 (some .int) d [.ref a0, .int x1] σ (.inl ((eI).1 r, (eI).2 r)) := V_method (em := eI) [some (.ref a0), some (.int x1), none, none] (by decide +kernel) rfl (Nat.le_of_ble_eq_true rfl) (w_X3_number hd σ a0 x1) h
/-! NobodyBeenAftModel.numberIn(III)I -/
def f_X3_numberIn (σ : vMem) (a0 : Nat) (x1 : Int32) (x2 : Int32) (x3 : Int32) : Option (Int32 × vMem) := cko σ a0 [3] (bd (f_X3_number σ a0 x1) (fun r σ_1 => if r < 0 then (some (r, σ_1)) else bp (f_X3_in σ_1 (Int32.toInt64 r) (Int32.toInt64 x2) (Int32.toInt64 x3)) (fun r_1 => if r_1 = 0 then (cko σ_1 a0 [3] (cko σ_1 a0 [3] (vl (si σ_1 a0 18 ((gi σ_1 a0 18) - 1)) (fun σ_2 => some ((-1), σ_2))))) else some (r, σ_1))))
abbrev P_X3_numberIn (l : Launch) (d n0 s0 : Nat) : vX → Prop := vMP l yX3_numberIn cX3_numberIn 5 (some .int) d n0 s0
theorem w_X3_numberIn {l : Launch} {d n0 s0 : Nat} (hd : 3 ≤ d) (σ : vMem) (a0 : Nat) (x1 : Int32) (x2 : Int32) (x3 : Int32) : V (P_X3_numberIn l d n0 s0) (vEmb eI) σ 0 [some (.ref a0), some (.int x1), some (.int x2), some (.int x3), none] [] (f_X3_numberIn σ a0 x1 x2 x3) := by
  have hC : vPx (P_X3_numberIn l d n0 s0) cX3_numberIn 5 "NobodyBeenAftModel" (some .int) d := vMP_cx
  refine V_eq (f_X3_numberIn.eq_1 ..) ?_
  refine V_aload_n hC dX3_numberIn_0 rfl ?_
  refine V_iload_n hC dX3_numberIn_1 rfl ?_
  refine V_cko (fun hm => V_callV_I (c := 3) (As := [.int x1]) (rest := []) (d' := 2) hC dX3_numberIn_2 1 (lw_V q1464 q1466 qs33 q87 q1467) (by decide +kernel) (List.mem_singleton.mp hm) (by decide) (by decide) rfl rfl rfl (Nat.le_of_ble_eq_true rfl) (Nat.le_trans (by decide) hd) (by decide) vMP_l (fun _ h => c_X3_number (Nat.le_refl _) h) (fun r σ_1 => ?_))
  refine V_istore (ls' := [some (.ref a0), some (.int x1), some (.int x2), some (.int x3), some (.int r)]) hC dX3_numberIn_5 (by decide) rfl rfl ?_
  refine V_iload hC dX3_numberIn_7 rfl ?_
  refine V_if_lt (tgt := 25) hC dX3_numberIn_9 (by decide) ?_ ?_
  · refine V_iload hC dX3_numberIn_25 rfl ?_
    exact V_ireturn dX3_numberIn_27 rfl rfl
  · refine V_iload hC dX3_numberIn_12 rfl ?_
    refine V_i2l hC dX3_numberIn_14 ?_
    refine V_iload_n hC dX3_numberIn_15 rfl ?_
    refine V_i2l hC dX3_numberIn_16 ?_
    refine V_iload_n hC dX3_numberIn_17 rfl ?_
    refine V_i2l hC dX3_numberIn_18 ?_
    refine V_callS_PI (As := [.long (Int32.toInt64 r), .long (Int32.toInt64 x2), .long (Int32.toInt64 x3)]) (rest := []) (d' := 0) hC dX3_numberIn_19 3 (lw_S q1448 q1449 q87 q1450) (by decide +kernel) rfl rfl (Nat.le_of_ble_eq_true rfl) (Nat.le_trans (by decide) hd) (by decide) vMP_l (fun _ h => c_X3_in (Nat.le_refl _) h) (fun r_1 => ?_)
    refine V_if_eq (tgt := 28) hC dX3_numberIn_22 (by decide) ?_ ?_
    · refine V_aload_n hC dX3_numberIn_28 rfl ?_
      refine V_dup hC dX3_numberIn_29 rfl ?_
      refine g_X3_127 hC dX3_numberIn_30 ?_
      refine V_iconst (v := 1) hC dX3_numberIn_33 rfl ?_
      refine V_isub hC dX3_numberIn_34 ?_
      refine p_X3_127 hC dX3_numberIn_35 (fun σ_2 => ?_)
      refine V_iconst (v := (-1)) hC dX3_numberIn_38 rfl ?_
      exact V_ireturn dX3_numberIn_39 rfl rfl
    · refine V_iload hC dX3_numberIn_25 rfl ?_
      exact V_ireturn dX3_numberIn_27 rfl rfl
theorem c_X3_numberIn {l : Launch} {d : Nat} (hd : 3 ≤ d) {σ : vMem} {a0 : Nat} {x1 : Int32} {x2 : Int32} {x3 : Int32} {r : Int32 × vMem} (h : f_X3_numberIn σ a0 x1 x2 x3 = some r) : vOk l yX3_numberIn cX3_numberIn 5 (some .int) d [.ref a0, .int x1, .int x2, .int x3] σ (.inl ((eI).1 r, (eI).2 r)) := V_method (em := eI) [some (.ref a0), some (.int x1), some (.int x2), some (.int x3), none] (by decide +kernel) rfl (Nat.le_of_ble_eq_true rfl) (w_X3_numberIn hd σ a0 x1 x2 x3) h
/-! NobodyBeenAftModel.flag(Z)I -/
def f_X3_flag (σ : vMem) (x0 : Int32) : Option (Int32) := if x0 = 0 then (some 0) else some 1
abbrev P_X3_flag (l : Launch) (d n0 s0 : Nat) : vX → Prop := vMP l yX3_flag cX3_flag 1 (some .int) d n0 s0
theorem w_X3_flag {l : Launch} {d n0 s0 : Nat} (hd : 0 ≤ d) (σ : vMem) (x0 : Int32) : V (P_X3_flag l d n0 s0) (vEmb (ePI σ)) σ 0 [some (.int x0)] [] (f_X3_flag σ x0) := by
  have hC : vPx (P_X3_flag l d n0 s0) cX3_flag 1 "NobodyBeenAftModel" (some .int) d := vMP_cx
  refine V_eq (f_X3_flag.eq_1 ..) ?_
  refine V_iload_n hC dX3_flag_0 rfl ?_
  refine V_if_eq (tgt := 8) hC dX3_flag_1 (by decide) ?_ ?_
  · refine V_iconst (v := 0) hC dX3_flag_8 rfl ?_
    exact V_ireturn dX3_flag_9 rfl rfl
  · refine V_iconst (v := 1) hC dX3_flag_4 rfl ?_
    refine V_goto (tgt := 9) hC dX3_flag_5 (by decide) ?_
    exact V_ireturn dX3_flag_9 rfl rfl
theorem c_X3_flag {l : Launch} {d : Nat} (hd : 0 ≤ d) {σ : vMem} {x0 : Int32} {r : Int32} (h : f_X3_flag σ x0 = some r) : vOk l yX3_flag cX3_flag 1 (some .int) d [.int x0] σ (.inl (((ePI σ)).1 r, ((ePI σ)).2 r)) := V_method (em := (ePI σ)) [some (.int x0)] (by decide +kernel) rfl (Nat.le_of_ble_eq_true rfl) (w_X3_flag hd σ x0) h
/-! NobodyBeenAftModel.takes(I)Z -/
def f_X3_takes (σ : vMem) (a0 : Nat) (x1 : Int32) : Option (Int32 × vMem) := cko σ a0 [3] (cko σ a0 [3] (vl (fun (y : Int32) => cko σ a0 [3] (bp (f_X3_flag σ y) (fun r => cko σ a0 [3] (vl (si σ a0 18 ((gi σ a0 18) + r)) (fun σ_1 => ck (narrow .boolean (.int y) = .int y) (some (y, σ_1))))))) (fun k => vl (k 0) (fun k_1 => if (gi σ a0 19) ≤ (gi σ a0 18) then k_1 else cko σ a0 [3] (dr (gr σ a0 16) (fun b => cko σ a0 [3] (cka σ b 105 (gi σ a0 18) (if ¬ (gi σ b (Int32.toNatClampNeg (gi σ a0 18))) = x1 then k_1 else k 1))))))))
abbrev P_X3_takes (l : Launch) (d n0 s0 : Nat) : vX → Prop := vMP l yX3_takes cX3_takes 3 (some .boolean) d n0 s0
theorem w_X3_takes {l : Launch} {d n0 s0 : Nat} (hd : 1 ≤ d) (σ : vMem) (a0 : Nat) (x1 : Int32) : V (P_X3_takes l d n0 s0) (vEmb eI) σ 0 [some (.ref a0), some (.int x1), none] [] (f_X3_takes σ a0 x1) := by
  have hC : vPx (P_X3_takes l d n0 s0) cX3_takes 3 "NobodyBeenAftModel" (some .boolean) d := vMP_cx
  refine V_eq (f_X3_takes.eq_1 ..) ?_
  refine V_aload_n hC dX3_takes_0 rfl ?_
  refine g_X3_127 hC dX3_takes_1 ?_
  refine V_aload_n hC dX3_takes_4 rfl ?_
  refine g_X3_139 hC dX3_takes_5 ?_
  refine V_let (B := fun k => ∀ (y : Int32), V (P_X3_takes l d n0 s0) (vEmb eI) σ 29 [some (.ref a0), none, none] [.int y] (k y)) ?_ ?_
  · intro y
    refine V_istore_n (ls' := [some (.ref a0), none, some (.int y)]) hC dX3_takes_29 (by decide) rfl rfl ?_
    refine V_aload_n hC dX3_takes_30 rfl ?_
    refine V_dup hC dX3_takes_31 rfl ?_
    refine g_X3_127 hC dX3_takes_32 ?_
    refine V_iload_n hC dX3_takes_35 rfl ?_
    refine V_callS_PI (As := [.int y]) (rest := [.int (gi σ a0 18), .ref a0]) (d' := 0) hC dX3_takes_36 1 (lw_S q1478 q1479 q87 q1480) (by decide +kernel) rfl rfl (Nat.le_of_ble_eq_true rfl) (Nat.le_trans (by decide) hd) (by decide) vMP_l (fun _ h => c_X3_flag (Nat.le_refl _) h) (fun r => ?_)
    refine V_iadd hC dX3_takes_39 ?_
    refine p_X3_127 hC dX3_takes_40 (fun σ_1 => ?_)
    refine V_iload_n hC dX3_takes_43 rfl ?_
    exact V_ck (fun h9 => V_zreturn h9 dX3_takes_44 rfl rfl)
  · intro k hk
    refine V_let (B := fun k_1 => V (P_X3_takes l d n0 s0) (vEmb eI) σ 28 [some (.ref a0), none, none] [] (k_1)) ?_ ?_
    · skip
      refine V_iconst (v := 0) hC dX3_takes_28 rfl ?_
      exact hk 0
    · intro k_1 hk_1
      refine V_icmp_ge (tgt := 28) hC dX3_takes_8 (by decide) ?_ ?_
      · refine V_clr [1] (ls' := [some (.ref a0), none, none]) rfl ?_
        exact hk_1
      · refine V_aload_n hC dX3_takes_11 rfl ?_
        refine g_X3_40 hC dX3_takes_12 (fun b => ?_)
        refine V_aload_n hC dX3_takes_15 rfl ?_
        refine g_X3_127 hC dX3_takes_16 ?_
        refine V_iald hC dX3_takes_19 ?_
        refine V_iload_n hC dX3_takes_20 rfl ?_
        refine V_icmp_ne (tgt := 28) hC dX3_takes_21 (by decide) ?_ ?_
        · refine V_clr [1] (ls' := [some (.ref a0), none, none]) rfl ?_
          exact hk_1
        · refine V_iconst (v := 1) hC dX3_takes_24 rfl ?_
          refine V_goto (tgt := 29) hC dX3_takes_25 (by decide) ?_
          refine V_clr [1] (ls' := [some (.ref a0), none, none]) rfl ?_
          exact hk 1
theorem c_X3_takes {l : Launch} {d : Nat} (hd : 1 ≤ d) {σ : vMem} {a0 : Nat} {x1 : Int32} {r : Int32 × vMem} (h : f_X3_takes σ a0 x1 = some r) : vOk l yX3_takes cX3_takes 3 (some .boolean) d [.ref a0, .int x1] σ (.inl ((eI).1 r, (eI).2 r)) := V_method (em := eI) [some (.ref a0), some (.int x1), none] (by decide +kernel) rfl (Nat.le_of_ble_eq_true rfl) (w_X3_takes hd σ a0 x1) h
/-! NobodyBeenAftModel.faultOf(IIZ)I -/
def f_X3_faultOf (σ : vMem) (a0 : Nat) (x1 : Int32) (x2 : Int32) (x3 : Int32) : Option (Int32) := vl (fun (y : Int32) => vl (if y = 0 then (cko σ a0 [3] (some ((-1) - (gi σ a0 18)))) else some 0) (fun k_1 => if x1 ≤ x2 then k_1 else vl (some ((-1) - x2)) (fun k_2 => if ¬ y = 0 then k_2 else cko σ a0 [3] (if (gi σ a0 18) < x2 then k_1 else k_2)))) (fun k => vl (k 0) (fun k_3 => if x3 = 0 then k_3 else cko σ a0 [3] (cko σ a0 [3] (if ¬ (gi σ a0 18) = (gi σ a0 19) then k_3 else k 1))))
abbrev P_X3_faultOf (l : Launch) (d n0 s0 : Nat) : vX → Prop := vMP l yX3_faultOf cX3_faultOf 5 (some .int) d n0 s0
theorem w_X3_faultOf {l : Launch} {d n0 s0 : Nat} (hd : 0 ≤ d) (σ : vMem) (a0 : Nat) (x1 : Int32) (x2 : Int32) (x3 : Int32) : V (P_X3_faultOf l d n0 s0) (vEmb (ePI σ)) σ 0 [some (.ref a0), some (.int x1), some (.int x2), some (.int x3), none] [] (f_X3_faultOf σ a0 x1 x2 x3) := by
  have hC : vPx (P_X3_faultOf l d n0 s0) cX3_faultOf 5 "NobodyBeenAftModel" (some .int) d := vMP_cx
  refine V_eq (f_X3_faultOf.eq_1 ..) ?_
  refine V_iload_n hC dX3_faultOf_0 rfl ?_
  refine V_let (B := fun k => ∀ (y : Int32), V (P_X3_faultOf l d n0 s0) (vEmb (ePI σ)) σ 20 [some (.ref a0), some (.int x1), some (.int x2), none, none] [.int y] (k y)) ?_ ?_
  · intro y
    refine V_istore (ls' := [some (.ref a0), some (.int x1), some (.int x2), none, some (.int y)]) hC dX3_faultOf_20 (by decide) rfl rfl ?_
    refine V_iload_n hC dX3_faultOf_22 rfl ?_
    refine V_iload_n hC dX3_faultOf_23 rfl ?_
    refine V_let (B := fun k_1 => V (P_X3_faultOf l d n0 s0) (vEmb (ePI σ)) σ 44 [some (.ref a0), none, none, none, some (.int y)] [] (k_1)) ?_ ?_
    · skip
      refine V_iload hC dX3_faultOf_44 rfl ?_
      refine V_if_eq (tgt := 53) hC dX3_faultOf_46 (by decide) ?_ ?_
      · refine V_iconst (v := (-1)) hC dX3_faultOf_53 rfl ?_
        refine V_aload_n hC dX3_faultOf_54 rfl ?_
        refine g_X3_127 hC dX3_faultOf_55 ?_
        refine V_isub hC dX3_faultOf_58 ?_
        exact V_ireturn dX3_faultOf_59 rfl rfl
      · refine V_iconst (v := 0) hC dX3_faultOf_49 rfl ?_
        refine V_goto (tgt := 59) hC dX3_faultOf_50 (by decide) ?_
        exact V_ireturn dX3_faultOf_59 rfl rfl
    · intro k_1 hk_1
      refine V_icmp_le (tgt := 44) hC dX3_faultOf_24 (by decide) ?_ ?_
      · refine V_clr [1, 2] (ls' := [some (.ref a0), none, none, none, some (.int y)]) rfl ?_
        exact hk_1
      · refine V_iload hC dX3_faultOf_27 rfl ?_
        refine V_let (B := fun k_2 => V (P_X3_faultOf l d n0 s0) (vEmb (ePI σ)) σ 40 [none, none, some (.int x2), none, none] [] (k_2)) ?_ ?_
        · skip
          refine V_iconst (v := (-1)) hC dX3_faultOf_40 rfl ?_
          refine V_iload_n hC dX3_faultOf_41 rfl ?_
          refine V_isub hC dX3_faultOf_42 ?_
          exact V_ireturn dX3_faultOf_43 rfl rfl
        · intro k_2 hk_2
          refine V_if_ne (tgt := 40) hC dX3_faultOf_29 (by decide) ?_ ?_
          · refine V_clr [0, 1, 4] (ls' := [none, none, some (.int x2), none, none]) rfl ?_
            exact hk_2
          · refine V_aload_n hC dX3_faultOf_32 rfl ?_
            refine g_X3_127 hC dX3_faultOf_33 ?_
            refine V_iload_n hC dX3_faultOf_36 rfl ?_
            refine V_icmp_lt (tgt := 44) hC dX3_faultOf_37 (by decide) ?_ ?_
            · refine V_clr [1, 2] (ls' := [some (.ref a0), none, none, none, some (.int y)]) rfl ?_
              exact hk_1
            · refine V_clr [0, 1, 4] (ls' := [none, none, some (.int x2), none, none]) rfl ?_
              exact hk_2
  · intro k hk
    refine V_let (B := fun k_3 => V (P_X3_faultOf l d n0 s0) (vEmb (ePI σ)) σ 19 [some (.ref a0), some (.int x1), some (.int x2), none, none] [] (k_3)) ?_ ?_
    · skip
      refine V_iconst (v := 0) hC dX3_faultOf_19 rfl ?_
      exact hk 0
    · intro k_3 hk_3
      refine V_if_eq (tgt := 19) hC dX3_faultOf_1 (by decide) ?_ ?_
      · refine V_clr [3] (ls' := [some (.ref a0), some (.int x1), some (.int x2), none, none]) rfl ?_
        exact hk_3
      · refine V_aload_n hC dX3_faultOf_4 rfl ?_
        refine g_X3_127 hC dX3_faultOf_5 ?_
        refine V_aload_n hC dX3_faultOf_8 rfl ?_
        refine g_X3_139 hC dX3_faultOf_9 ?_
        refine V_icmp_ne (tgt := 19) hC dX3_faultOf_12 (by decide) ?_ ?_
        · refine V_clr [3] (ls' := [some (.ref a0), some (.int x1), some (.int x2), none, none]) rfl ?_
          exact hk_3
        · refine V_iconst (v := 1) hC dX3_faultOf_15 rfl ?_
          refine V_goto (tgt := 20) hC dX3_faultOf_16 (by decide) ?_
          refine V_clr [3] (ls' := [some (.ref a0), some (.int x1), some (.int x2), none, none]) rfl ?_
          exact hk 1
theorem c_X3_faultOf {l : Launch} {d : Nat} (hd : 0 ≤ d) {σ : vMem} {a0 : Nat} {x1 : Int32} {x2 : Int32} {x3 : Int32} {r : Int32} (h : f_X3_faultOf σ a0 x1 x2 x3 = some r) : vOk l yX3_faultOf cX3_faultOf 5 (some .int) d [.ref a0, .int x1, .int x2, .int x3] σ (.inl (((ePI σ)).1 r, ((ePI σ)).2 r)) := V_method (em := (ePI σ)) [some (.ref a0), some (.int x1), some (.int x2), some (.int x3), none] (by decide +kernel) rfl (Nat.le_of_ble_eq_true rfl) (w_X3_faultOf hd σ a0 x1 x2 x3) h
/-! NobodyBeenAftModel.ship()I -/
def f_X3_ship_181 (a0 : Nat) (k_2 : vMem → Option (Int32 × vMem)) : Nat → vMem → Int32 → Option (Int32 × vMem)
  | 0, _, _ => none
  | n + 1, σ_10, v6 => cko σ_10 a0 [3] (if (gi σ_10 a0 4) ≤ v6 then (k_2 σ_10) else cko σ_10 a0 [3] (dr (gr σ_10 a0 9) (fun b => cko σ_10 a0 [3] (dr (gr σ_10 a0 21) (fun b_1 => cka σ_10 b_1 105 (2 * v6) (cka σ_10 b 105 v6 (vl (si σ_10 b (Int32.toNatClampNeg v6) (gi σ_10 b_1 (Int32.toNatClampNeg (2 * v6)))) (fun σ_11 => cko σ_11 a0 [3] (dr (gr σ_11 a0 10) (fun b_2 => cko σ_11 a0 [3] (dr (gr σ_11 a0 21) (fun b_3 => cka σ_11 b_3 105 ((2 * v6) + 1) (vl (fun (y_1 : Int32) => cka σ_11 b_2 101 v6 (vl (si σ_11 b_2 (Int32.toNatClampNeg v6) (vp_nar .boolean y_1)) (fun σ_12 => cko σ_12 a0 [3] (cko σ_12 a0 [3] (dr (gr σ_12 a0 21) (fun b_4 => cka σ_12 b_4 105 ((2 * v6) + 1) (cko σ_12 a0 [3] (vl (si σ_12 a0 5 ((gi σ_12 a0 5) + (gi σ_12 b_4 (Int32.toNatClampNeg ((2 * v6) + 1))))) (fun σ_13 => vl (v6 + 1) (fun v6_1 => f_X3_ship_181 a0 k_2 n σ_13 v6_1)))))))))) (fun k_3 => if ¬ (gi σ_11 b_3 (Int32.toNatClampNeg ((2 * v6) + 1))) = 1 then (k_3 0) else k_3 1))))))))))))))
def f_X3_ship_39 (a0 : Nat) (r : Int32) (r_1 : Int32) (k_1 : vMem → Int32 → Option (Int32 × vMem)) : Nat → vMem → Int32 → Int32 → Option (Int32 × vMem)
  | 0, _, _, _ => none
  | n_1 + 1, σ_14, v3_1, v4 => if v3_1 = 0 then (k_1 σ_14 v3_1) else cko σ_14 a0 [3] (if 10 ≤ (gi σ_14 a0 22) then (k_1 σ_14 v3_1) else cko σ_14 a0 [3] (bd (f_X3_takes σ_14 a0 44) (fun r_3 σ_15 => if r_3 = 0 then (k_1 σ_15 v3_1) else cko σ_15 a0 [3] (bd (f_X3_numberIn σ_15 a0 2 (v4 + 1) (r_1 - 1)) (fun r_4 σ_16 => vl (fun (y_2 : Int32) => vl (fun (σ_17 : vMem) (v4_1 : Int32) => f_X3_ship_39 a0 r r_1 k_1 n_1 σ_17 y_2 v4_1) (fun k_5 => if y_2 = 0 then (k_5 σ_16 v4) else cko σ_16 a0 [3] (dr (gr σ_16 a0 21) (fun b_5 => cko σ_16 a0 [3] (cka σ_16 b_5 105 (2 * (gi σ_16 a0 22)) (vl (si σ_16 b_5 (Int32.toNatClampNeg (2 * (gi σ_16 a0 22))) r_4) (fun σ_18 => cko σ_18 a0 [3] (dr (gr σ_18 a0 21) (fun b_6 => cko σ_18 a0 [3] (cko σ_18 a0 [3] (bd (f_X3_takes σ_18 a0 42) (fun r_5 σ_19 => bp (f_X3_flag σ_19 r_5) (fun r_6 => cka σ_19 b_6 105 ((2 * (gi σ_18 a0 22)) + 1) (vl (si σ_19 b_6 (Int32.toNatClampNeg ((2 * (gi σ_18 a0 22)) + 1)) r_6) (fun σ_20 => cko σ_20 a0 [3] (cko σ_20 a0 [3] (vl (si σ_20 a0 22 ((gi σ_20 a0 22) + 1)) (fun σ_21 => k_5 σ_21 r_4)))))))))))))))))) (fun k_4 => if r_4 < 0 then (k_4 0) else k_4 1))))))
def f_X3_ship (σ : vMem) (a0 : Nat) : Option (Int32 × vMem) := cko σ a0 [3] (vl (si σ a0 0 0) (fun σ_1 => cko σ_1 a0 [3] (bd (f_X3_begins σ_1 a0 43) (fun r σ_2 => cko σ_2 a0 [3] (vl (si σ_2 a0 22 0) (fun σ_3 => cko σ_3 a0 [3] (bd (f_X3_numberIn σ_3 a0 2 2 40) (fun r_1 σ_4 => vl (fun (y : Int32) => vl (fun (σ_5 : vMem) (v3 : Int32) => cko σ_5 a0 [3] (bp (f_X3_faultOf σ_5 a0 r 43 v3) (fun r_2 => if 0 ≤ r_2 then (cko σ_5 a0 [3] (vl (si σ_5 a0 3 r_1) (fun σ_6 => cko σ_6 a0 [3] (cko σ_6 a0 [3] (vl (si σ_6 a0 4 (gi σ_6 a0 22)) (fun σ_7 => cko σ_7 a0 [3] (vl (si σ_7 a0 5 0) (fun σ_8 => vl (fun (σ_9 : vMem) => cko σ_9 a0 [3] (some ((gi σ_9 a0 4), σ_9))) (fun k_2 => f_X3_ship_181 a0 k_2 FU σ_8 0))))))))) else some (r_2, σ_5)))) (fun k_1 => f_X3_ship_39 a0 r r_1 k_1 FU σ_4 y (-1))) (fun k => if r_1 ≤ 0 then (k 0) else k 1)))))))))
abbrev P_X3_ship (l : Launch) (d n0 s0 : Nat) : vX → Prop := vMP l yX3_ship cX3_ship 7 (some .int) d n0 s0
theorem w_X3_ship_181 {l : Launch} {d n0 s0 : Nat} (hd : 4 ≤ d) (a0 : Nat) (k_2 : vMem → Option (Int32 × vMem)) (hk_2 : ∀ (σ_9 : vMem), V (P_X3_ship l d n0 s0) (vEmb eI) σ_9 259 [some (.ref a0), none, none, none, none, none, none] [] (k_2 σ_9)) : ∀ (n : Nat) (σ_10 : vMem) (v6 : Int32), V (P_X3_ship l d n0 s0) (vEmb eI) σ_10 181 [some (.ref a0), none, none, none, none, none, some (.int v6)] [] (f_X3_ship_181 a0 k_2 n σ_10 v6) := by
  have hC : vPx (P_X3_ship l d n0 s0) cX3_ship 7 "NobodyBeenAftModel" (some .int) d := vMP_cx
  intro n
  induction n with
  | zero =>
    intro σ_10 v6
    exact V_none
  | succ n ih =>
    intro σ_10 v6
    refine V_eq (f_X3_ship_181.eq_2 ..) ?_
    refine V_iload hC dX3_ship_181 rfl ?_
    refine V_aload_n hC dX3_ship_183 rfl ?_
    refine g_X3_190 hC dX3_ship_184 ?_
    refine V_icmp_ge (tgt := 259) hC dX3_ship_187 (by decide) ?_ ?_
    · refine V_clr [6] (ls' := [some (.ref a0), none, none, none, none, none, none]) rfl ?_
      exact hk_2 σ_10
    · refine V_aload_n hC dX3_ship_190 rfl ?_
      refine g_X3_17 hC dX3_ship_191 (fun b => ?_)
      refine V_iload hC dX3_ship_194 rfl ?_
      refine V_aload_n hC dX3_ship_196 rfl ?_
      refine g_X3_43 hC dX3_ship_197 (fun b_1 => ?_)
      refine V_iconst (v := 2) hC dX3_ship_200 rfl ?_
      refine V_iload hC dX3_ship_201 rfl ?_
      refine V_imul hC dX3_ship_203 ?_
      refine V_iald hC dX3_ship_204 ?_
      refine V_iast hC dX3_ship_205 (fun σ_11 => ?_)
      refine V_aload_n hC dX3_ship_206 rfl ?_
      refine g_X3_21 hC dX3_ship_207 (fun b_2 => ?_)
      refine V_iload hC dX3_ship_210 rfl ?_
      refine V_aload_n hC dX3_ship_212 rfl ?_
      refine g_X3_43 hC dX3_ship_213 (fun b_3 => ?_)
      refine V_iconst (v := 2) hC dX3_ship_216 rfl ?_
      refine V_iload hC dX3_ship_217 rfl ?_
      refine V_imul hC dX3_ship_219 ?_
      refine V_iconst (v := 1) hC dX3_ship_220 rfl ?_
      refine V_iadd hC dX3_ship_221 ?_
      refine V_iald hC dX3_ship_222 ?_
      refine V_iconst (v := 1) hC dX3_ship_223 rfl ?_
      refine V_let (B := fun k_3 => ∀ (y_1 : Int32), V (P_X3_ship l d n0 s0) (vEmb eI) σ_11 232 [some (.ref a0), none, none, none, none, none, some (.int v6)] [.int y_1, .int v6, .ref b_2] (k_3 y_1)) ?_ ?_
      · intro y_1
        refine V_zast hC dX3_ship_232 (fun σ_12 => ?_)
        refine V_aload_n hC dX3_ship_233 rfl ?_
        refine V_dup hC dX3_ship_234 rfl ?_
        refine g_X3_193 hC dX3_ship_235 ?_
        refine V_aload_n hC dX3_ship_238 rfl ?_
        refine g_X3_43 hC dX3_ship_239 (fun b_4 => ?_)
        refine V_iconst (v := 2) hC dX3_ship_242 rfl ?_
        refine V_iload hC dX3_ship_243 rfl ?_
        refine V_imul hC dX3_ship_245 ?_
        refine V_iconst (v := 1) hC dX3_ship_246 rfl ?_
        refine V_iadd hC dX3_ship_247 ?_
        refine V_iald hC dX3_ship_248 ?_
        refine V_iadd hC dX3_ship_249 ?_
        refine p_X3_193 hC dX3_ship_250 (fun σ_13 => ?_)
        refine V_iincL (v := v6 + 1) (ls' := fun v6_1 => [some (.ref a0), none, none, none, none, none, some (.int v6_1)]) hC dX3_ship_253 rfl (by decide) rfl rfl (fun _ => rfl) (fun v6_1 => ?_)
        refine V_goto (tgt := 181) hC dX3_ship_256 (by decide) ?_
        exact ih σ_13 v6_1
      · intro k_3 hk_3
        refine V_icmp_ne (tgt := 231) hC dX3_ship_224 (by decide) ?_ ?_
        · refine V_iconst (v := 0) hC dX3_ship_231 rfl ?_
          exact hk_3 0
        · refine V_iconst (v := 1) hC dX3_ship_227 rfl ?_
          refine V_goto (tgt := 232) hC dX3_ship_228 (by decide) ?_
          exact hk_3 1
theorem w_X3_ship_39 {l : Launch} {d n0 s0 : Nat} (hd : 4 ≤ d) (a0 : Nat) (r : Int32) (r_1 : Int32) (k_1 : vMem → Int32 → Option (Int32 × vMem)) (hk_1 : ∀ (σ_5 : vMem), ∀ (v3 : Int32), V (P_X3_ship l d n0 s0) (vEmb eI) σ_5 142 [some (.ref a0), some (.int r), some (.int r_1), some (.int v3), none, none, none] [] (k_1 σ_5 v3)) : ∀ (n_1 : Nat) (σ_14 : vMem) (v3_1 : Int32) (v4 : Int32), V (P_X3_ship l d n0 s0) (vEmb eI) σ_14 39 [some (.ref a0), some (.int r), some (.int r_1), some (.int v3_1), some (.int v4), none, none] [] (f_X3_ship_39 a0 r r_1 k_1 n_1 σ_14 v3_1 v4) := by
  have hC : vPx (P_X3_ship l d n0 s0) cX3_ship 7 "NobodyBeenAftModel" (some .int) d := vMP_cx
  intro n_1
  induction n_1 with
  | zero =>
    intro σ_14 v3_1 v4
    exact V_none
  | succ n_1 ih =>
    intro σ_14 v3_1 v4
    refine V_eq (f_X3_ship_39.eq_2 ..) ?_
    refine V_iload_n hC dX3_ship_39 rfl ?_
    refine V_if_eq (tgt := 142) hC dX3_ship_40 (by decide) ?_ ?_
    · refine V_clr [4] (ls' := [some (.ref a0), some (.int r), some (.int r_1), some (.int v3_1), none, none, none]) rfl ?_
      exact hk_1 σ_14 v3_1
    · refine V_aload_n hC dX3_ship_43 rfl ?_
      refine g_X3_175 hC dX3_ship_44 ?_
      refine V_bipush (v := 10) hC dX3_ship_47 rfl ?_
      refine V_icmp_ge (tgt := 142) hC dX3_ship_49 (by decide) ?_ ?_
      · refine V_clr [4] (ls' := [some (.ref a0), some (.int r), some (.int r_1), some (.int v3_1), none, none, none]) rfl ?_
        exact hk_1 σ_14 v3_1
      · refine V_aload_n hC dX3_ship_52 rfl ?_
        refine V_bipush (v := 44) hC dX3_ship_53 rfl ?_
        refine V_cko (fun hm => V_callV_I (c := 3) (As := [.int 44]) (rest := []) (d' := 1) hC dX3_ship_55 1 (lw_V q1474 q1476 qs35 q87 q1477) (by decide +kernel) (List.mem_singleton.mp hm) (by decide) (by decide) rfl rfl rfl (Nat.le_of_ble_eq_true rfl) (Nat.le_trans (by decide) hd) (by decide) vMP_l (fun _ h => c_X3_takes (Nat.le_refl _) h) (fun r_3 σ_15 => ?_))
        refine V_if_eq (tgt := 142) hC dX3_ship_58 (by decide) ?_ ?_
        · refine V_clr [4] (ls' := [some (.ref a0), some (.int r), some (.int r_1), some (.int v3_1), none, none, none]) rfl ?_
          exact hk_1 σ_15 v3_1
        · refine V_aload_n hC dX3_ship_61 rfl ?_
          refine V_iconst (v := 2) hC dX3_ship_62 rfl ?_
          refine V_iload hC dX3_ship_63 rfl ?_
          refine V_iconst (v := 1) hC dX3_ship_65 rfl ?_
          refine V_iadd hC dX3_ship_66 ?_
          refine V_iload_n hC dX3_ship_67 rfl ?_
          refine V_iconst (v := 1) hC dX3_ship_68 rfl ?_
          refine V_isub hC dX3_ship_69 ?_
          refine V_cko (fun hm => V_callV_I (c := 3) (As := [.int 2, .int (v4 + 1), .int (r_1 - 1)]) (rest := []) (d' := 3) hC dX3_ship_70 3 (lw_V q1460 q1462 qs32 q87 q1463) (by decide +kernel) (List.mem_singleton.mp hm) (by decide) (by decide) rfl rfl rfl (Nat.le_of_ble_eq_true rfl) (Nat.le_trans (by decide) hd) (by decide) vMP_l (fun _ h => c_X3_numberIn (Nat.le_refl _) h) (fun r_4 σ_16 => ?_))
          refine V_istore (ls' := [some (.ref a0), some (.int r), some (.int r_1), some (.int v3_1), some (.int v4), some (.int r_4), none]) hC dX3_ship_73 (by decide) rfl rfl ?_
          refine V_iload hC dX3_ship_75 rfl ?_
          refine V_let (B := fun k_4 => ∀ (y_2 : Int32), V (P_X3_ship l d n0 s0) (vEmb eI) σ_16 85 [some (.ref a0), some (.int r), some (.int r_1), none, some (.int v4), some (.int r_4), none] [.int y_2] (k_4 y_2)) ?_ ?_
          · intro y_2
            refine V_istore_n (ls' := [some (.ref a0), some (.int r), some (.int r_1), some (.int y_2), some (.int v4), some (.int r_4), none]) hC dX3_ship_85 (by decide) rfl rfl ?_
            refine V_iload_n hC dX3_ship_86 rfl ?_
            refine V_let (B := fun k_5 => ∀ (σ_17 : vMem), ∀ (v4_1 : Int32), V (P_X3_ship l d n0 s0) (vEmb eI) σ_17 139 [some (.ref a0), some (.int r), some (.int r_1), some (.int y_2), some (.int v4_1), none, none] [] (k_5 σ_17 v4_1)) ?_ ?_
            · intro σ_17 v4_1
              refine V_goto (tgt := 39) hC dX3_ship_139 (by decide) ?_
              exact ih σ_17 y_2 v4_1
            · intro k_5 hk_5
              refine V_if_eq (tgt := 139) hC dX3_ship_87 (by decide) ?_ ?_
              · refine V_clr [5] (ls' := [some (.ref a0), some (.int r), some (.int r_1), some (.int y_2), some (.int v4), none, none]) rfl ?_
                exact hk_5 σ_16 v4
              · refine V_iload hC dX3_ship_90 rfl ?_
                refine V_istore (ls' := [some (.ref a0), some (.int r), some (.int r_1), some (.int y_2), some (.int r_4), some (.int r_4), none]) hC dX3_ship_92 (by decide) rfl rfl ?_
                refine V_aload_n hC dX3_ship_94 rfl ?_
                refine g_X3_43 hC dX3_ship_95 (fun b_5 => ?_)
                refine V_iconst (v := 2) hC dX3_ship_98 rfl ?_
                refine V_aload_n hC dX3_ship_99 rfl ?_
                refine g_X3_175 hC dX3_ship_100 ?_
                refine V_imul hC dX3_ship_103 ?_
                refine V_iload hC dX3_ship_104 rfl ?_
                refine V_iast hC dX3_ship_106 (fun σ_18 => ?_)
                refine V_aload_n hC dX3_ship_107 rfl ?_
                refine g_X3_43 hC dX3_ship_108 (fun b_6 => ?_)
                refine V_iconst (v := 2) hC dX3_ship_111 rfl ?_
                refine V_aload_n hC dX3_ship_112 rfl ?_
                refine g_X3_175 hC dX3_ship_113 ?_
                refine V_imul hC dX3_ship_116 ?_
                refine V_iconst (v := 1) hC dX3_ship_117 rfl ?_
                refine V_iadd hC dX3_ship_118 ?_
                refine V_aload_n hC dX3_ship_119 rfl ?_
                refine V_bipush (v := 42) hC dX3_ship_120 rfl ?_
                refine V_cko (fun hm => V_callV_I (c := 3) (As := [.int 42]) (rest := [.int ((2 * (gi σ_18 a0 22)) + 1), .ref b_6]) (d' := 1) hC dX3_ship_122 1 (lw_V q1474 q1476 qs35 q87 q1477) (by decide +kernel) (List.mem_singleton.mp hm) (by decide) (by decide) rfl rfl rfl (Nat.le_of_ble_eq_true rfl) (Nat.le_trans (by decide) hd) (by decide) vMP_l (fun _ h => c_X3_takes (Nat.le_refl _) h) (fun r_5 σ_19 => ?_))
                refine V_callS_PI (As := [.int r_5]) (rest := [.int ((2 * (gi σ_18 a0 22)) + 1), .ref b_6]) (d' := 0) hC dX3_ship_125 1 (lw_S q1478 q1479 q87 q1480) (by decide +kernel) rfl rfl (Nat.le_of_ble_eq_true rfl) (Nat.le_trans (by decide) hd) (by decide) vMP_l (fun _ h => c_X3_flag (Nat.le_refl _) h) (fun r_6 => ?_)
                refine V_iast hC dX3_ship_128 (fun σ_20 => ?_)
                refine V_aload_n hC dX3_ship_129 rfl ?_
                refine V_dup hC dX3_ship_130 rfl ?_
                refine g_X3_175 hC dX3_ship_131 ?_
                refine V_iconst (v := 1) hC dX3_ship_134 rfl ?_
                refine V_iadd hC dX3_ship_135 ?_
                refine p_X3_175 hC dX3_ship_136 (fun σ_21 => ?_)
                refine V_clr [5] (ls' := [some (.ref a0), some (.int r), some (.int r_1), some (.int y_2), some (.int r_4), none, none]) rfl ?_
                exact hk_5 σ_21 r_4
          · intro k_4 hk_4
            refine V_if_lt (tgt := 84) hC dX3_ship_77 (by decide) ?_ ?_
            · refine V_iconst (v := 0) hC dX3_ship_84 rfl ?_
              refine V_clr [3] (ls' := [some (.ref a0), some (.int r), some (.int r_1), none, some (.int v4), some (.int r_4), none]) rfl ?_
              exact hk_4 0
            · refine V_iconst (v := 1) hC dX3_ship_80 rfl ?_
              refine V_goto (tgt := 85) hC dX3_ship_81 (by decide) ?_
              refine V_clr [3] (ls' := [some (.ref a0), some (.int r), some (.int r_1), none, some (.int v4), some (.int r_4), none]) rfl ?_
              exact hk_4 1
theorem w_X3_ship {l : Launch} {d n0 s0 : Nat} (hd : 4 ≤ d) (σ : vMem) (a0 : Nat) : V (P_X3_ship l d n0 s0) (vEmb eI) σ 0 [some (.ref a0), none, none, none, none, none, none] [] (f_X3_ship σ a0) := by
  have hC : vPx (P_X3_ship l d n0 s0) cX3_ship 7 "NobodyBeenAftModel" (some .int) d := vMP_cx
  refine V_eq (f_X3_ship.eq_1 ..) ?_
  refine V_aload_n hC dX3_ship_0 rfl ?_
  refine V_iconst (v := 0) hC dX3_ship_1 rfl ?_
  refine p_X3_103 hC dX3_ship_2 (fun σ_1 => ?_)
  refine V_aload_n hC dX3_ship_5 rfl ?_
  refine V_bipush (v := 43) hC dX3_ship_6 rfl ?_
  refine V_cko (fun hm => V_callV_I (c := 3) (As := [.int 43]) (rest := []) (d' := 0) hC dX3_ship_8 1 (lw_V q1455 q1457 qs31 q87 q1458) (by decide +kernel) (List.mem_singleton.mp hm) (by decide) (by decide) rfl rfl rfl (Nat.le_of_ble_eq_true rfl) (Nat.le_trans (by decide) hd) (by decide) vMP_l (fun _ h => c_X3_begins (Nat.le_refl _) h) (fun r σ_2 => ?_))
  refine V_istore_n (ls' := [some (.ref a0), some (.int r), none, none, none, none, none]) hC dX3_ship_11 (by decide) rfl rfl ?_
  refine V_aload_n hC dX3_ship_12 rfl ?_
  refine V_iconst (v := 0) hC dX3_ship_13 rfl ?_
  refine p_X3_175 hC dX3_ship_14 (fun σ_3 => ?_)
  refine V_aload_n hC dX3_ship_17 rfl ?_
  refine V_iconst (v := 2) hC dX3_ship_18 rfl ?_
  refine V_iconst (v := 2) hC dX3_ship_19 rfl ?_
  refine V_bipush (v := 40) hC dX3_ship_20 rfl ?_
  refine V_cko (fun hm => V_callV_I (c := 3) (As := [.int 2, .int 2, .int 40]) (rest := []) (d' := 3) hC dX3_ship_22 3 (lw_V q1460 q1462 qs32 q87 q1463) (by decide +kernel) (List.mem_singleton.mp hm) (by decide) (by decide) rfl rfl rfl (Nat.le_of_ble_eq_true rfl) (Nat.le_trans (by decide) hd) (by decide) vMP_l (fun _ h => c_X3_numberIn (Nat.le_refl _) h) (fun r_1 σ_4 => ?_))
  refine V_istore_n (ls' := [some (.ref a0), some (.int r), some (.int r_1), none, none, none, none]) hC dX3_ship_25 (by decide) rfl rfl ?_
  refine V_iload_n hC dX3_ship_26 rfl ?_
  refine V_let (B := fun k => ∀ (y : Int32), V (P_X3_ship l d n0 s0) (vEmb eI) σ_4 35 [some (.ref a0), some (.int r), some (.int r_1), none, none, none, none] [.int y] (k y)) ?_ ?_
  · intro y
    refine V_istore_n (ls' := [some (.ref a0), some (.int r), some (.int r_1), some (.int y), none, none, none]) hC dX3_ship_35 (by decide) rfl rfl ?_
    refine V_iconst (v := (-1)) hC dX3_ship_36 rfl ?_
    refine V_istore (ls' := [some (.ref a0), some (.int r), some (.int r_1), some (.int y), some (.int (-1)), none, none]) hC dX3_ship_37 (by decide) rfl rfl ?_
    refine V_let (B := fun k_1 => ∀ (σ_5 : vMem), ∀ (v3 : Int32), V (P_X3_ship l d n0 s0) (vEmb eI) σ_5 142 [some (.ref a0), some (.int r), some (.int r_1), some (.int v3), none, none, none] [] (k_1 σ_5 v3)) ?_ ?_
    · intro σ_5 v3
      refine V_aload_n hC dX3_ship_142 rfl ?_
      refine V_iload_n hC dX3_ship_143 rfl ?_
      refine V_bipush (v := 43) hC dX3_ship_144 rfl ?_
      refine V_iload_n hC dX3_ship_146 rfl ?_
      refine V_cko (fun hm => V_callV_PI (c := 3) (As := [.int r, .int 43, .int v3]) (rest := []) (d' := 0) hC dX3_ship_147 3 (lw_V q1481 q1483 qs36 q87 q1484) (by decide +kernel) (List.mem_singleton.mp hm) (by decide) (by decide) rfl rfl rfl (Nat.le_of_ble_eq_true rfl) (Nat.le_trans (by decide) hd) (by decide) vMP_l (fun _ h => c_X3_faultOf (Nat.le_refl _) h) (fun r_2 => ?_))
      refine V_istore (ls' := [some (.ref a0), some (.int r), some (.int r_1), some (.int v3), none, some (.int r_2), none]) hC dX3_ship_150 (by decide) rfl rfl ?_
      refine V_iload hC dX3_ship_152 rfl ?_
      refine V_if_ge (tgt := 160) hC dX3_ship_154 (by decide) ?_ ?_
      · refine V_aload_n hC dX3_ship_160 rfl ?_
        refine V_iload_n hC dX3_ship_161 rfl ?_
        refine p_X3_13 hC dX3_ship_162 (fun σ_6 => ?_)
        refine V_aload_n hC dX3_ship_165 rfl ?_
        refine V_aload_n hC dX3_ship_166 rfl ?_
        refine g_X3_175 hC dX3_ship_167 ?_
        refine p_X3_190 hC dX3_ship_170 (fun σ_7 => ?_)
        refine V_aload_n hC dX3_ship_173 rfl ?_
        refine V_iconst (v := 0) hC dX3_ship_174 rfl ?_
        refine p_X3_193 hC dX3_ship_175 (fun σ_8 => ?_)
        refine V_iconst (v := 0) hC dX3_ship_178 rfl ?_
        refine V_istore (ls' := [some (.ref a0), some (.int r), some (.int r_1), some (.int v3), none, some (.int r_2), some (.int 0)]) hC dX3_ship_179 (by decide) rfl rfl ?_
        refine V_let (B := fun k_2 => ∀ (σ_9 : vMem), V (P_X3_ship l d n0 s0) (vEmb eI) σ_9 259 [some (.ref a0), none, none, none, none, none, none] [] (k_2 σ_9)) ?_ ?_
        · intro σ_9
          refine V_aload_n hC dX3_ship_259 rfl ?_
          refine g_X3_190 hC dX3_ship_260 ?_
          exact V_ireturn dX3_ship_263 rfl rfl
        · intro k_2 hk_2
          refine V_clr [1, 2, 3, 5] (ls' := [some (.ref a0), none, none, none, none, none, some (.int 0)]) rfl ?_
          exact (w_X3_ship_181 hd a0 k_2 hk_2) FU σ_8 0
      · refine V_iload hC dX3_ship_157 rfl ?_
        exact V_ireturn dX3_ship_159 rfl rfl
    · intro k_1 hk_1
      exact (w_X3_ship_39 hd a0 r r_1 k_1 hk_1) FU σ_4 y (-1)
  · intro k hk
    refine V_if_le (tgt := 34) hC dX3_ship_27 (by decide) ?_ ?_
    · refine V_iconst (v := 0) hC dX3_ship_34 rfl ?_
      exact hk 0
    · refine V_iconst (v := 1) hC dX3_ship_30 rfl ?_
      refine V_goto (tgt := 35) hC dX3_ship_31 (by decide) ?_
      exact hk 1
theorem c_X3_ship {l : Launch} {d : Nat} (hd : 4 ≤ d) {σ : vMem} {a0 : Nat} {r : Int32 × vMem} (h : f_X3_ship σ a0 = some r) : vOk l yX3_ship cX3_ship 7 (some .int) d [.ref a0] σ (.inl ((eI).1 r, (eI).2 r)) := V_method (em := eI) [some (.ref a0), none, none, none, none, none, none] (by decide +kernel) rfl (Nat.le_of_ble_eq_true rfl) (w_X3_ship hd σ a0) h
/-! NobodyBeenAftModel.among(Ljava/lang/String;)I -/
def f_X3_among_2 (a0 : Nat) (a1 : Nat) : Nat → vMem → Int32 → Option (Int32 × vMem)
  | 0, _, _ => none
  | n + 1, σ_1, v2 => cks a1 (bp (f_J3_length σ_1 a1) (fun r => if r ≤ v2 then (some ((-1), σ_1)) else cko σ_1 a0 [3] (cko σ_1 a0 [3] (if (gi σ_1 a0 19) ≤ (gi σ_1 a0 18) then (some ((-1), σ_1)) else cks a1 (bd (f_J3_charAt σ_1 a1 v2) (fun r_1 σ_2 => cko σ_2 a0 [3] (dr (gr σ_2 a0 16) (fun b => cko σ_2 a0 [3] (cka σ_2 b 105 (gi σ_2 a0 18) (if ¬ r_1 = (gi σ_2 b (Int32.toNatClampNeg (gi σ_2 a0 18))) then (vl (v2 + 1) (fun v2_1 => f_X3_among_2 a0 a1 n σ_2 v2_1)) else some (v2, σ_2)))))))))))
def f_X3_among (σ : vMem) (a0 : Nat) (a1 : Nat) : Option (Int32 × vMem) := f_X3_among_2 a0 a1 FU σ 0
abbrev P_X3_among (l : Launch) (d n0 s0 : Nat) : vX → Prop := vMP l yX3_among cX3_among 3 (some .int) d n0 s0
theorem w_X3_among_2 {l : Launch} {d n0 s0 : Nat} (hd : 4 ≤ d) (a0 : Nat) (a1 : Nat)  : ∀ (n : Nat) (σ_1 : vMem) (v2 : Int32), V (P_X3_among l d n0 s0) (vEmb eI) σ_1 2 [some (.ref a0), some (.ref a1), some (.int v2)] [] (f_X3_among_2 a0 a1 n σ_1 v2) := by
  have hC : vPx (P_X3_among l d n0 s0) cX3_among 3 "NobodyBeenAftModel" (some .int) d := vMP_cx
  intro n
  induction n with
  | zero =>
    intro σ_1 v2
    exact V_none
  | succ n ih =>
    intro σ_1 v2
    refine V_eq (f_X3_among_2.eq_2 ..) ?_
    refine V_iload_n hC dX3_among_2 rfl ?_
    refine V_aload_n hC dX3_among_3 rfl ?_
    refine V_cks (fun hm => V_callT_PI (As := []) (rest := [.int v2]) (d' := 1) hC dX3_among_4 0 (lw_V q1502 q1503 q1504 q97 q1505) (by decide +kernel) hm rfl rfl (Nat.le_of_ble_eq_true rfl) (Nat.le_trans (by decide) hd) (by decide) vMP_l (fun _ h => c_J3_length (Nat.le_refl _) h) (fun r => ?_))
    refine V_icmp_ge (tgt := 46) hC dX3_among_7 (by decide) ?_ ?_
    · refine V_iconst (v := (-1)) hC dX3_among_46 rfl ?_
      exact V_ireturn dX3_among_47 rfl rfl
    · refine V_aload_n hC dX3_among_10 rfl ?_
      refine g_X3_127 hC dX3_among_11 ?_
      refine V_aload_n hC dX3_among_14 rfl ?_
      refine g_X3_139 hC dX3_among_15 ?_
      refine V_icmp_ge (tgt := 46) hC dX3_among_18 (by decide) ?_ ?_
      · refine V_iconst (v := (-1)) hC dX3_among_46 rfl ?_
        exact V_ireturn dX3_among_47 rfl rfl
      · refine V_aload_n hC dX3_among_21 rfl ?_
        refine V_iload_n hC dX3_among_22 rfl ?_
        refine V_cks (fun hm => V_callT_I (As := [.int v2]) (rest := []) (d' := 3) hC dX3_among_23 1 (lw_V q1512 q1513 q1514 q97 q1515) (by decide +kernel) hm rfl rfl (Nat.le_of_ble_eq_true rfl) (Nat.le_trans (by decide) hd) (by decide) vMP_l (fun _ h => c_J3_charAt (Nat.le_refl _) h) (fun r_1 σ_2 => ?_))
        refine V_aload_n hC dX3_among_26 rfl ?_
        refine g_X3_40 hC dX3_among_27 (fun b => ?_)
        refine V_aload_n hC dX3_among_30 rfl ?_
        refine g_X3_127 hC dX3_among_31 ?_
        refine V_iald hC dX3_among_34 ?_
        refine V_icmp_ne (tgt := 40) hC dX3_among_35 (by decide) ?_ ?_
        · refine V_iincL (v := v2 + 1) (ls' := fun v2_1 => [some (.ref a0), some (.ref a1), some (.int v2_1)]) hC dX3_among_40 rfl (by decide) rfl rfl (fun _ => rfl) (fun v2_1 => ?_)
          refine V_goto (tgt := 2) hC dX3_among_43 (by decide) ?_
          exact ih σ_2 v2_1
        · refine V_iload_n hC dX3_among_38 rfl ?_
          exact V_ireturn dX3_among_39 rfl rfl
theorem w_X3_among {l : Launch} {d n0 s0 : Nat} (hd : 4 ≤ d) (σ : vMem) (a0 : Nat) (a1 : Nat) : V (P_X3_among l d n0 s0) (vEmb eI) σ 0 [some (.ref a0), some (.ref a1), none] [] (f_X3_among σ a0 a1) := by
  have hC : vPx (P_X3_among l d n0 s0) cX3_among 3 "NobodyBeenAftModel" (some .int) d := vMP_cx
  refine V_eq (f_X3_among.eq_1 ..) ?_
  refine V_iconst (v := 0) hC dX3_among_0 rfl ?_
  refine V_istore_n (ls' := [some (.ref a0), some (.ref a1), some (.int 0)]) hC dX3_among_1 (by decide) rfl rfl ?_
  exact (w_X3_among_2 hd a0 a1) FU σ 0
theorem c_X3_among {l : Launch} {d : Nat} (hd : 4 ≤ d) {σ : vMem} {a0 : Nat} {a1 : Nat} {r : Int32 × vMem} (h : f_X3_among σ a0 a1 = some r) : vOk l yX3_among cX3_among 3 (some .int) d [.ref a0, .ref a1] σ (.inl ((eI).1 r, (eI).2 r)) := V_method (em := eI) [some (.ref a0), some (.ref a1), none] (by decide +kernel) rfl (Nat.le_of_ble_eq_true rfl) (w_X3_among hd σ a0 a1) h
/-! NobodyBeenAftModel.takesOf(Ljava/lang/String;)I -/
def f_X3_takesOf (σ : vMem) (a0 : Nat) (a1 : Nat) : Option (Int32 × vMem) := cko σ a0 [3] (bd (f_X3_among σ a0 a1) (fun r σ_1 => cko σ_1 a0 [3] (vl (fun (y : Int32) => bp (f_X3_flag σ_1 y) (fun r_1 => cko σ_1 a0 [3] (vl (si σ_1 a0 18 ((gi σ_1 a0 18) + r_1)) (fun σ_2 => some (r, σ_2))))) (fun k => if r < 0 then (k 0) else k 1))))
abbrev P_X3_takesOf (l : Launch) (d n0 s0 : Nat) : vX → Prop := vMP l yX3_takesOf cX3_takesOf 3 (some .int) d n0 s0
theorem w_X3_takesOf {l : Launch} {d n0 s0 : Nat} (hd : 5 ≤ d) (σ : vMem) (a0 : Nat) (a1 : Nat) : V (P_X3_takesOf l d n0 s0) (vEmb eI) σ 0 [some (.ref a0), some (.ref a1), none] [] (f_X3_takesOf σ a0 a1) := by
  have hC : vPx (P_X3_takesOf l d n0 s0) cX3_takesOf 3 "NobodyBeenAftModel" (some .int) d := vMP_cx
  refine V_eq (f_X3_takesOf.eq_1 ..) ?_
  refine V_aload_n hC dX3_takesOf_0 rfl ?_
  refine V_aload_n hC dX3_takesOf_1 rfl ?_
  refine V_cko (fun hm => V_callV_I (c := 3) (As := [.ref a1]) (rest := []) (d' := 4) hC dX3_takesOf_2 1 (lw_V q1498 q1500 qs39 q87 q1501) (by decide +kernel) (List.mem_singleton.mp hm) (by decide) (by decide) rfl rfl rfl (Nat.le_of_ble_eq_true rfl) (Nat.le_trans (by decide) hd) (by decide) vMP_l (fun _ h => c_X3_among (Nat.le_refl _) h) (fun r σ_1 => ?_))
  refine V_istore_n (ls' := [some (.ref a0), some (.ref a1), some (.int r)]) hC dX3_takesOf_5 (by decide) rfl rfl ?_
  refine V_aload_n hC dX3_takesOf_6 rfl ?_
  refine V_dup hC dX3_takesOf_7 rfl ?_
  refine g_X3_127 hC dX3_takesOf_8 ?_
  refine V_iload_n hC dX3_takesOf_11 rfl ?_
  refine V_let (B := fun k => ∀ (y : Int32), V (P_X3_takesOf l d n0 s0) (vEmb eI) σ_1 20 [none, none, some (.int r)] [.int y, .int (gi σ_1 a0 18), .ref a0] (k y)) ?_ ?_
  · intro y
    refine V_callS_PI (As := [.int y]) (rest := [.int (gi σ_1 a0 18), .ref a0]) (d' := 0) hC dX3_takesOf_20 1 (lw_S q1478 q1479 q87 q1480) (by decide +kernel) rfl rfl (Nat.le_of_ble_eq_true rfl) (Nat.le_trans (by decide) hd) (by decide) vMP_l (fun _ h => c_X3_flag (Nat.le_refl _) h) (fun r_1 => ?_)
    refine V_iadd hC dX3_takesOf_23 ?_
    refine p_X3_127 hC dX3_takesOf_24 (fun σ_2 => ?_)
    refine V_iload_n hC dX3_takesOf_27 rfl ?_
    exact V_ireturn dX3_takesOf_28 rfl rfl
  · intro k hk
    refine V_if_lt (tgt := 19) hC dX3_takesOf_12 (by decide) ?_ ?_
    · refine V_iconst (v := 0) hC dX3_takesOf_19 rfl ?_
      refine V_clr [0, 1] (ls' := [none, none, some (.int r)]) rfl ?_
      exact hk 0
    · refine V_iconst (v := 1) hC dX3_takesOf_15 rfl ?_
      refine V_goto (tgt := 20) hC dX3_takesOf_16 (by decide) ?_
      refine V_clr [0, 1] (ls' := [none, none, some (.int r)]) rfl ?_
      exact hk 1
theorem c_X3_takesOf {l : Launch} {d : Nat} (hd : 5 ≤ d) {σ : vMem} {a0 : Nat} {a1 : Nat} {r : Int32 × vMem} (h : f_X3_takesOf σ a0 a1 = some r) : vOk l yX3_takesOf cX3_takesOf 3 (some .int) d [.ref a0, .ref a1] σ (.inl ((eI).1 r, (eI).2 r)) := V_method (em := eI) [some (.ref a0), some (.ref a1), none] (by decide +kernel) rfl (Nat.le_of_ble_eq_true rfl) (w_X3_takesOf hd σ a0 a1) h
/-! NobodyBeenAftModel.readsRock()Z -/
def f_X3_readsRock (σ : vMem) (a0 : Nat) : Option (Int32 × vMem) := cko σ a0 [3] (cko σ a0 [3] (if ¬ ((gi σ a0 6) + (gi σ a0 22)) = 16 then (cko σ a0 [3] (vl (2 * (gi σ a0 22)) (fun v1 => cko σ a0 [3] (dr (gr σ a0 21) (fun b => cko σ a0 [3] (bd (f_X3_numberIn σ a0 3 1 999) (fun r σ_1 => cka σ_1 b 105 v1 (vl (si σ_1 b (Int32.toNatClampNeg v1) r) (fun σ_2 => cko σ_2 a0 [3] (dr (gr σ_2 a0 21) (fun b_1 => cka σ_2 b_1 105 v1 (if (gi σ_2 b_1 (Int32.toNatClampNeg v1)) < 0 then (some (0, σ_2)) else cko σ_2 a0 [3] (bd (f_X3_takes σ_2 a0 44) (fun r_1 σ_3 => if ¬ r_1 = 0 then (cko σ_3 a0 [3] (dr (gr σ_3 a0 21) (fun b_2 => cko σ_3 a0 [3] (bd (f_X3_takesOf σ_3 a0 (SB + 0)) (fun r_2 σ_4 => cka σ_4 b_2 105 (v1 + 1) (vl (si σ_4 b_2 (Int32.toNatClampNeg (v1 + 1)) r_2) (fun σ_5 => cko σ_5 a0 [3] (cko σ_5 a0 [3] (vl (si σ_5 a0 22 ((gi σ_5 a0 22) + 1)) (fun σ_6 => cko σ_6 a0 [3] (dr (gr σ_6 a0 21) (fun b_3 => cka σ_6 b_3 105 (v1 + 1) (if (gi σ_6 b_3 (Int32.toNatClampNeg (v1 + 1))) < 0 then (some (0, σ_6)) else some (1, σ_6)))))))))))))) else some (0, σ_3))))))))))))))) else some (0, σ)))
abbrev P_X3_readsRock (l : Launch) (d n0 s0 : Nat) : vX → Prop := vMP l yX3_readsRock cX3_readsRock 2 (some .boolean) d n0 s0
theorem w_X3_readsRock {l : Launch} {d n0 s0 : Nat} (hd : 6 ≤ d) (σ : vMem) (a0 : Nat) : V (P_X3_readsRock l d n0 s0) (vEmb eI) σ 0 [some (.ref a0), none] [] (f_X3_readsRock σ a0) := by
  have hC : vPx (P_X3_readsRock l d n0 s0) cX3_readsRock 2 "NobodyBeenAftModel" (some .boolean) d := vMP_cx
  refine V_eq (f_X3_readsRock.eq_1 ..) ?_
  refine V_aload_n hC dX3_readsRock_0 rfl ?_
  refine g_X3_196 hC dX3_readsRock_1 ?_
  refine V_aload_n hC dX3_readsRock_4 rfl ?_
  refine g_X3_175 hC dX3_readsRock_5 ?_
  refine V_iadd hC dX3_readsRock_8 ?_
  refine V_bipush (v := 16) hC dX3_readsRock_9 rfl ?_
  refine V_icmp_ne (tgt := 16) hC dX3_readsRock_11 (by decide) ?_ ?_
  · refine V_iconst (v := 2) hC dX3_readsRock_16 rfl ?_
    refine V_aload_n hC dX3_readsRock_17 rfl ?_
    refine g_X3_175 hC dX3_readsRock_18 ?_
    refine V_imul hC dX3_readsRock_21 ?_
    refine V_istore_nL (ls' := fun v1 => [some (.ref a0), some (.int v1)]) hC dX3_readsRock_22 (by decide) rfl (fun _ => rfl) (fun v1 => ?_)
    refine V_aload_n hC dX3_readsRock_23 rfl ?_
    refine g_X3_43 hC dX3_readsRock_24 (fun b => ?_)
    refine V_iload_n hC dX3_readsRock_27 rfl ?_
    refine V_aload_n hC dX3_readsRock_28 rfl ?_
    refine V_iconst (v := 3) hC dX3_readsRock_29 rfl ?_
    refine V_iconst (v := 1) hC dX3_readsRock_30 rfl ?_
    refine V_sipush (v := 999) hC dX3_readsRock_31 rfl ?_
    refine V_cko (fun hm => V_callV_I (c := 3) (As := [.int 3, .int 1, .int 999]) (rest := [.int v1, .ref b]) (d' := 3) hC dX3_readsRock_34 3 (lw_V q1460 q1462 qs32 q87 q1463) (by decide +kernel) (List.mem_singleton.mp hm) (by decide) (by decide) rfl rfl rfl (Nat.le_of_ble_eq_true rfl) (Nat.le_trans (by decide) hd) (by decide) vMP_l (fun _ h => c_X3_numberIn (Nat.le_refl _) h) (fun r σ_1 => ?_))
    refine V_iast hC dX3_readsRock_37 (fun σ_2 => ?_)
    refine V_aload_n hC dX3_readsRock_38 rfl ?_
    refine g_X3_43 hC dX3_readsRock_39 (fun b_1 => ?_)
    refine V_iload_n hC dX3_readsRock_42 rfl ?_
    refine V_iald hC dX3_readsRock_43 ?_
    refine V_if_lt (tgt := 56) hC dX3_readsRock_44 (by decide) ?_ ?_
    · refine V_iconst (v := 0) hC dX3_readsRock_56 rfl ?_
      exact V_zreturn rfl dX3_readsRock_57 rfl rfl
    · refine V_aload_n hC dX3_readsRock_47 rfl ?_
      refine V_bipush (v := 44) hC dX3_readsRock_48 rfl ?_
      refine V_cko (fun hm => V_callV_I (c := 3) (As := [.int 44]) (rest := []) (d' := 1) hC dX3_readsRock_50 1 (lw_V q1474 q1476 qs35 q87 q1477) (by decide +kernel) (List.mem_singleton.mp hm) (by decide) (by decide) rfl rfl rfl (Nat.le_of_ble_eq_true rfl) (Nat.le_trans (by decide) hd) (by decide) vMP_l (fun _ h => c_X3_takes (Nat.le_refl _) h) (fun r_1 σ_3 => ?_))
      refine V_if_ne (tgt := 58) hC dX3_readsRock_53 (by decide) ?_ ?_
      · refine V_aload_n hC dX3_readsRock_58 rfl ?_
        refine g_X3_43 hC dX3_readsRock_59 (fun b_2 => ?_)
        refine V_iload_n hC dX3_readsRock_62 rfl ?_
        refine V_iconst (v := 1) hC dX3_readsRock_63 rfl ?_
        refine V_iadd hC dX3_readsRock_64 ?_
        refine V_aload_n hC dX3_readsRock_65 rfl ?_
        refine V_ldcS 0 (by decide) hC dX3_readsRock_66 rfl ?_
        refine V_cko (fun hm => V_callV_I (c := 3) (As := [.ref (SB + 0)]) (rest := [.int (v1 + 1), .ref b_2]) (d' := 5) hC dX3_readsRock_68 1 (lw_V q1494 q1496 qs38 q87 q1497) (by decide +kernel) (List.mem_singleton.mp hm) (by decide) (by decide) rfl rfl rfl (Nat.le_of_ble_eq_true rfl) (Nat.le_trans (by decide) hd) (by decide) vMP_l (fun _ h => c_X3_takesOf (Nat.le_refl _) h) (fun r_2 σ_4 => ?_))
        refine V_iast hC dX3_readsRock_71 (fun σ_5 => ?_)
        refine V_aload_n hC dX3_readsRock_72 rfl ?_
        refine V_dup hC dX3_readsRock_73 rfl ?_
        refine g_X3_175 hC dX3_readsRock_74 ?_
        refine V_iconst (v := 1) hC dX3_readsRock_77 rfl ?_
        refine V_iadd hC dX3_readsRock_78 ?_
        refine p_X3_175 hC dX3_readsRock_79 (fun σ_6 => ?_)
        refine V_aload_n hC dX3_readsRock_82 rfl ?_
        refine g_X3_43 hC dX3_readsRock_83 (fun b_3 => ?_)
        refine V_iload_n hC dX3_readsRock_86 rfl ?_
        refine V_iconst (v := 1) hC dX3_readsRock_87 rfl ?_
        refine V_iadd hC dX3_readsRock_88 ?_
        refine V_iald hC dX3_readsRock_89 ?_
        refine V_if_lt (tgt := 97) hC dX3_readsRock_90 (by decide) ?_ ?_
        · refine V_iconst (v := 0) hC dX3_readsRock_97 rfl ?_
          exact V_zreturn rfl dX3_readsRock_98 rfl rfl
        · refine V_iconst (v := 1) hC dX3_readsRock_93 rfl ?_
          refine V_goto (tgt := 98) hC dX3_readsRock_94 (by decide) ?_
          exact V_zreturn rfl dX3_readsRock_98 rfl rfl
      · refine V_iconst (v := 0) hC dX3_readsRock_56 rfl ?_
        exact V_zreturn rfl dX3_readsRock_57 rfl rfl
  · refine V_iconst (v := 0) hC dX3_readsRock_14 rfl ?_
    exact V_zreturn rfl dX3_readsRock_15 rfl rfl
theorem c_X3_readsRock {l : Launch} {d : Nat} (hd : 6 ≤ d) {σ : vMem} {a0 : Nat} {r : Int32 × vMem} (h : f_X3_readsRock σ a0 = some r) : vOk l yX3_readsRock cX3_readsRock 2 (some .boolean) d [.ref a0] σ (.inl ((eI).1 r, (eI).2 r)) := V_method (em := eI) [some (.ref a0), none] (by decide +kernel) rfl (Nat.le_of_ble_eq_true rfl) (w_X3_readsRock hd σ a0) h
/-! NobodyBeenAftModel.rocks()I -/
def f_X3_rocks_81 (a0 : Nat) (k_2 : vMem → Option (Int32 × vMem)) : Nat → vMem → Int32 → Option (Int32 × vMem)
  | 0, _, _ => none
  | n + 1, σ_6, v5 => cko σ_6 a0 [3] (if (gi σ_6 a0 22) ≤ v5 then (k_2 σ_6) else cko σ_6 a0 [3] (dr (gr σ_6 a0 11) (fun b => cko σ_6 a0 [3] (cko σ_6 a0 [3] (dr (gr σ_6 a0 21) (fun b_1 => cka σ_6 b_1 105 (2 * v5) (cka σ_6 b 105 (gi σ_6 a0 6) (vl (si σ_6 b (Int32.toNatClampNeg (gi σ_6 a0 6)) (gi σ_6 b_1 (Int32.toNatClampNeg (2 * v5)))) (fun σ_7 => cko σ_7 a0 [3] (dr (gr σ_7 a0 12) (fun b_2 => cko σ_7 a0 [3] (cko σ_7 a0 [3] (dr (gr σ_7 a0 21) (fun b_3 => cka σ_7 b_3 105 ((2 * v5) + 1) (cka σ_7 b_2 105 (gi σ_7 a0 6) (vl (si σ_7 b_2 (Int32.toNatClampNeg (gi σ_7 a0 6)) (gi σ_7 b_3 (Int32.toNatClampNeg ((2 * v5) + 1)))) (fun σ_8 => cko σ_8 a0 [3] (cko σ_8 a0 [3] (vl (si σ_8 a0 6 ((gi σ_8 a0 6) + 1)) (fun σ_9 => vl (v5 + 1) (fun v5_1 => f_X3_rocks_81 a0 k_2 n σ_9 v5_1)))))))))))))))))))))
def f_X3_rocks_29 (a0 : Nat) (r : Int32) (k_1 : vMem → Int32 → Option (Int32 × vMem)) : Nat → vMem → Int32 → Int32 → Option (Int32 × vMem)
  | 0, _, _, _ => none
  | n_1 + 1, σ_10, v2_1, v3 => if v3 = 0 then (k_1 σ_10 v2_1) else cko σ_10 a0 [3] (bd (f_X3_readsRock σ_10 a0) (fun r_2 σ_11 => vl (fun (σ_12 : vMem) (y_1 : Int32) => f_X3_rocks_29 a0 r k_1 n_1 σ_12 r_2 y_1) (fun k_3 => vl (fun (σ_13 : vMem) => k_3 σ_13 0) (fun k_4 => if r_2 = 0 then (k_4 σ_11) else cko σ_11 a0 [3] (bd (f_X3_takes σ_11 a0 59) (fun r_3 σ_14 => if r_3 = 0 then (k_4 σ_14) else k_3 σ_14 1))))))
def f_X3_rocks (σ : vMem) (a0 : Nat) : Option (Int32 × vMem) := cko σ a0 [3] (vl (si σ a0 0 0) (fun σ_1 => cko σ_1 a0 [3] (bd (f_X3_begins σ_1 a0 76) (fun r σ_2 => cko σ_2 a0 [3] (vl (si σ_2 a0 22 0) (fun σ_3 => vl (fun (y : Int32) => vl (fun (σ_4 : vMem) (v2 : Int32) => cko σ_4 a0 [3] (bp (f_X3_faultOf σ_4 a0 r 76 v2) (fun r_1 => if 0 ≤ r_1 then (vl (fun (σ_5 : vMem) => cko σ_5 a0 [3] (some ((gi σ_5 a0 22), σ_5))) (fun k_2 => f_X3_rocks_81 a0 k_2 FU σ_4 0)) else some (r_1, σ_4)))) (fun k_1 => f_X3_rocks_29 a0 r k_1 FU σ_3 1 y)) (fun k => if r ≤ 0 then (k 0) else k 1)))))))
abbrev P_X3_rocks (l : Launch) (d n0 s0 : Nat) : vX → Prop := vMP l yX3_rocks cX3_rocks 6 (some .int) d n0 s0
theorem w_X3_rocks_81 {l : Launch} {d n0 s0 : Nat} (hd : 7 ≤ d) (a0 : Nat) (k_2 : vMem → Option (Int32 × vMem)) (hk_2 : ∀ (σ_5 : vMem), V (P_X3_rocks l d n0 s0) (vEmb eI) σ_5 144 [some (.ref a0), none, none, none, none, none] [] (k_2 σ_5)) : ∀ (n : Nat) (σ_6 : vMem) (v5 : Int32), V (P_X3_rocks l d n0 s0) (vEmb eI) σ_6 81 [some (.ref a0), none, none, none, none, some (.int v5)] [] (f_X3_rocks_81 a0 k_2 n σ_6 v5) := by
  have hC : vPx (P_X3_rocks l d n0 s0) cX3_rocks 6 "NobodyBeenAftModel" (some .int) d := vMP_cx
  intro n
  induction n with
  | zero =>
    intro σ_6 v5
    exact V_none
  | succ n ih =>
    intro σ_6 v5
    refine V_eq (f_X3_rocks_81.eq_2 ..) ?_
    refine V_iload hC dX3_rocks_81 rfl ?_
    refine V_aload_n hC dX3_rocks_83 rfl ?_
    refine g_X3_175 hC dX3_rocks_84 ?_
    refine V_icmp_ge (tgt := 144) hC dX3_rocks_87 (by decide) ?_ ?_
    · refine V_clr [5] (ls' := [some (.ref a0), none, none, none, none, none]) rfl ?_
      exact hk_2 σ_6
    · refine V_aload_n hC dX3_rocks_90 rfl ?_
      refine g_X3_25 hC dX3_rocks_91 (fun b => ?_)
      refine V_aload_n hC dX3_rocks_94 rfl ?_
      refine g_X3_196 hC dX3_rocks_95 ?_
      refine V_aload_n hC dX3_rocks_98 rfl ?_
      refine g_X3_43 hC dX3_rocks_99 (fun b_1 => ?_)
      refine V_iconst (v := 2) hC dX3_rocks_102 rfl ?_
      refine V_iload hC dX3_rocks_103 rfl ?_
      refine V_imul hC dX3_rocks_105 ?_
      refine V_iald hC dX3_rocks_106 ?_
      refine V_iast hC dX3_rocks_107 (fun σ_7 => ?_)
      refine V_aload_n hC dX3_rocks_108 rfl ?_
      refine g_X3_28 hC dX3_rocks_109 (fun b_2 => ?_)
      refine V_aload_n hC dX3_rocks_112 rfl ?_
      refine g_X3_196 hC dX3_rocks_113 ?_
      refine V_aload_n hC dX3_rocks_116 rfl ?_
      refine g_X3_43 hC dX3_rocks_117 (fun b_3 => ?_)
      refine V_iconst (v := 2) hC dX3_rocks_120 rfl ?_
      refine V_iload hC dX3_rocks_121 rfl ?_
      refine V_imul hC dX3_rocks_123 ?_
      refine V_iconst (v := 1) hC dX3_rocks_124 rfl ?_
      refine V_iadd hC dX3_rocks_125 ?_
      refine V_iald hC dX3_rocks_126 ?_
      refine V_iast hC dX3_rocks_127 (fun σ_8 => ?_)
      refine V_aload_n hC dX3_rocks_128 rfl ?_
      refine V_dup hC dX3_rocks_129 rfl ?_
      refine g_X3_196 hC dX3_rocks_130 ?_
      refine V_iconst (v := 1) hC dX3_rocks_133 rfl ?_
      refine V_iadd hC dX3_rocks_134 ?_
      refine p_X3_196 hC dX3_rocks_135 (fun σ_9 => ?_)
      refine V_iincL (v := v5 + 1) (ls' := fun v5_1 => [some (.ref a0), none, none, none, none, some (.int v5_1)]) hC dX3_rocks_138 rfl (by decide) rfl rfl (fun _ => rfl) (fun v5_1 => ?_)
      refine V_goto (tgt := 81) hC dX3_rocks_141 (by decide) ?_
      exact ih σ_9 v5_1
theorem w_X3_rocks_29 {l : Launch} {d n0 s0 : Nat} (hd : 7 ≤ d) (a0 : Nat) (r : Int32) (k_1 : vMem → Int32 → Option (Int32 × vMem)) (hk_1 : ∀ (σ_4 : vMem), ∀ (v2 : Int32), V (P_X3_rocks l d n0 s0) (vEmb eI) σ_4 60 [some (.ref a0), some (.int r), some (.int v2), none, none, none] [] (k_1 σ_4 v2)) : ∀ (n_1 : Nat) (σ_10 : vMem) (v2_1 : Int32) (v3 : Int32), V (P_X3_rocks l d n0 s0) (vEmb eI) σ_10 29 [some (.ref a0), some (.int r), some (.int v2_1), some (.int v3), none, none] [] (f_X3_rocks_29 a0 r k_1 n_1 σ_10 v2_1 v3) := by
  have hC : vPx (P_X3_rocks l d n0 s0) cX3_rocks 6 "NobodyBeenAftModel" (some .int) d := vMP_cx
  intro n_1
  induction n_1 with
  | zero =>
    intro σ_10 v2_1 v3
    exact V_none
  | succ n_1 ih =>
    intro σ_10 v2_1 v3
    refine V_eq (f_X3_rocks_29.eq_2 ..) ?_
    refine V_iload_n hC dX3_rocks_29 rfl ?_
    refine V_if_eq (tgt := 60) hC dX3_rocks_30 (by decide) ?_ ?_
    · refine V_clr [3] (ls' := [some (.ref a0), some (.int r), some (.int v2_1), none, none, none]) rfl ?_
      exact hk_1 σ_10 v2_1
    · refine V_aload_n hC dX3_rocks_33 rfl ?_
      refine V_cko (fun hm => V_callV_I (c := 3) (As := []) (rest := []) (d' := 6) hC dX3_rocks_34 0 (lw_V q1489 q1491 qs37 q87 q1492) (by decide +kernel) (List.mem_singleton.mp hm) (by decide) (by decide) rfl rfl rfl (Nat.le_of_ble_eq_true rfl) (Nat.le_trans (by decide) hd) (by decide) vMP_l (fun _ h => c_X3_readsRock (Nat.le_refl _) h) (fun r_2 σ_11 => ?_))
      refine V_istore_n (ls' := [some (.ref a0), some (.int r), some (.int r_2), some (.int v3), none, none]) hC dX3_rocks_37 (by decide) rfl rfl ?_
      refine V_iload_n hC dX3_rocks_38 rfl ?_
      refine V_let (B := fun k_3 => ∀ (σ_12 : vMem), ∀ (y_1 : Int32), V (P_X3_rocks l d n0 s0) (vEmb eI) σ_12 56 [some (.ref a0), some (.int r), some (.int r_2), none, none, none] [.int y_1] (k_3 σ_12 y_1)) ?_ ?_
      · intro σ_12 y_1
        refine V_istore_n (ls' := [some (.ref a0), some (.int r), some (.int r_2), some (.int y_1), none, none]) hC dX3_rocks_56 (by decide) rfl rfl ?_
        refine V_goto (tgt := 29) hC dX3_rocks_57 (by decide) ?_
        exact ih σ_12 r_2 y_1
      · intro k_3 hk_3
        refine V_let (B := fun k_4 => ∀ (σ_13 : vMem), V (P_X3_rocks l d n0 s0) (vEmb eI) σ_13 55 [some (.ref a0), some (.int r), some (.int r_2), none, none, none] [] (k_4 σ_13)) ?_ ?_
        · intro σ_13
          refine V_iconst (v := 0) hC dX3_rocks_55 rfl ?_
          exact hk_3 σ_13 0
        · intro k_4 hk_4
          refine V_if_eq (tgt := 55) hC dX3_rocks_39 (by decide) ?_ ?_
          · refine V_clr [3] (ls' := [some (.ref a0), some (.int r), some (.int r_2), none, none, none]) rfl ?_
            exact hk_4 σ_11
          · refine V_aload_n hC dX3_rocks_42 rfl ?_
            refine V_bipush (v := 59) hC dX3_rocks_43 rfl ?_
            refine V_cko (fun hm => V_callV_I (c := 3) (As := [.int 59]) (rest := []) (d' := 1) hC dX3_rocks_45 1 (lw_V q1474 q1476 qs35 q87 q1477) (by decide +kernel) (List.mem_singleton.mp hm) (by decide) (by decide) rfl rfl rfl (Nat.le_of_ble_eq_true rfl) (Nat.le_trans (by decide) hd) (by decide) vMP_l (fun _ h => c_X3_takes (Nat.le_refl _) h) (fun r_3 σ_14 => ?_))
            refine V_if_eq (tgt := 55) hC dX3_rocks_48 (by decide) ?_ ?_
            · refine V_clr [3] (ls' := [some (.ref a0), some (.int r), some (.int r_2), none, none, none]) rfl ?_
              exact hk_4 σ_14
            · refine V_iconst (v := 1) hC dX3_rocks_51 rfl ?_
              refine V_goto (tgt := 56) hC dX3_rocks_52 (by decide) ?_
              refine V_clr [3] (ls' := [some (.ref a0), some (.int r), some (.int r_2), none, none, none]) rfl ?_
              exact hk_3 σ_14 1
theorem w_X3_rocks {l : Launch} {d n0 s0 : Nat} (hd : 7 ≤ d) (σ : vMem) (a0 : Nat) : V (P_X3_rocks l d n0 s0) (vEmb eI) σ 0 [some (.ref a0), none, none, none, none, none] [] (f_X3_rocks σ a0) := by
  have hC : vPx (P_X3_rocks l d n0 s0) cX3_rocks 6 "NobodyBeenAftModel" (some .int) d := vMP_cx
  refine V_eq (f_X3_rocks.eq_1 ..) ?_
  refine V_aload_n hC dX3_rocks_0 rfl ?_
  refine V_iconst (v := 0) hC dX3_rocks_1 rfl ?_
  refine p_X3_103 hC dX3_rocks_2 (fun σ_1 => ?_)
  refine V_aload_n hC dX3_rocks_5 rfl ?_
  refine V_bipush (v := 76) hC dX3_rocks_6 rfl ?_
  refine V_cko (fun hm => V_callV_I (c := 3) (As := [.int 76]) (rest := []) (d' := 0) hC dX3_rocks_8 1 (lw_V q1455 q1457 qs31 q87 q1458) (by decide +kernel) (List.mem_singleton.mp hm) (by decide) (by decide) rfl rfl rfl (Nat.le_of_ble_eq_true rfl) (Nat.le_trans (by decide) hd) (by decide) vMP_l (fun _ h => c_X3_begins (Nat.le_refl _) h) (fun r σ_2 => ?_))
  refine V_istore_n (ls' := [some (.ref a0), some (.int r), none, none, none, none]) hC dX3_rocks_11 (by decide) rfl rfl ?_
  refine V_aload_n hC dX3_rocks_12 rfl ?_
  refine V_iconst (v := 0) hC dX3_rocks_13 rfl ?_
  refine p_X3_175 hC dX3_rocks_14 (fun σ_3 => ?_)
  refine V_iconst (v := 1) hC dX3_rocks_17 rfl ?_
  refine V_istore_n (ls' := [some (.ref a0), some (.int r), some (.int 1), none, none, none]) hC dX3_rocks_18 (by decide) rfl rfl ?_
  refine V_iload_n hC dX3_rocks_19 rfl ?_
  refine V_let (B := fun k => ∀ (y : Int32), V (P_X3_rocks l d n0 s0) (vEmb eI) σ_3 28 [some (.ref a0), some (.int r), some (.int 1), none, none, none] [.int y] (k y)) ?_ ?_
  · intro y
    refine V_istore_n (ls' := [some (.ref a0), some (.int r), some (.int 1), some (.int y), none, none]) hC dX3_rocks_28 (by decide) rfl rfl ?_
    refine V_let (B := fun k_1 => ∀ (σ_4 : vMem), ∀ (v2 : Int32), V (P_X3_rocks l d n0 s0) (vEmb eI) σ_4 60 [some (.ref a0), some (.int r), some (.int v2), none, none, none] [] (k_1 σ_4 v2)) ?_ ?_
    · intro σ_4 v2
      refine V_aload_n hC dX3_rocks_60 rfl ?_
      refine V_iload_n hC dX3_rocks_61 rfl ?_
      refine V_bipush (v := 76) hC dX3_rocks_62 rfl ?_
      refine V_iload_n hC dX3_rocks_64 rfl ?_
      refine V_cko (fun hm => V_callV_PI (c := 3) (As := [.int r, .int 76, .int v2]) (rest := []) (d' := 0) hC dX3_rocks_65 3 (lw_V q1481 q1483 qs36 q87 q1484) (by decide +kernel) (List.mem_singleton.mp hm) (by decide) (by decide) rfl rfl rfl (Nat.le_of_ble_eq_true rfl) (Nat.le_trans (by decide) hd) (by decide) vMP_l (fun _ h => c_X3_faultOf (Nat.le_refl _) h) (fun r_1 => ?_))
      refine V_istore (ls' := [some (.ref a0), some (.int r), some (.int v2), none, some (.int r_1), none]) hC dX3_rocks_68 (by decide) rfl rfl ?_
      refine V_iload hC dX3_rocks_70 rfl ?_
      refine V_if_ge (tgt := 78) hC dX3_rocks_72 (by decide) ?_ ?_
      · refine V_iconst (v := 0) hC dX3_rocks_78 rfl ?_
        refine V_istore (ls' := [some (.ref a0), some (.int r), some (.int v2), none, some (.int r_1), some (.int 0)]) hC dX3_rocks_79 (by decide) rfl rfl ?_
        refine V_let (B := fun k_2 => ∀ (σ_5 : vMem), V (P_X3_rocks l d n0 s0) (vEmb eI) σ_5 144 [some (.ref a0), none, none, none, none, none] [] (k_2 σ_5)) ?_ ?_
        · intro σ_5
          refine V_aload_n hC dX3_rocks_144 rfl ?_
          refine g_X3_175 hC dX3_rocks_145 ?_
          exact V_ireturn dX3_rocks_148 rfl rfl
        · intro k_2 hk_2
          refine V_clr [1, 2, 4] (ls' := [some (.ref a0), none, none, none, none, some (.int 0)]) rfl ?_
          exact (w_X3_rocks_81 hd a0 k_2 hk_2) FU σ_4 0
      · refine V_iload hC dX3_rocks_75 rfl ?_
        exact V_ireturn dX3_rocks_77 rfl rfl
    · intro k_1 hk_1
      exact (w_X3_rocks_29 hd a0 r k_1 hk_1) FU σ_3 1 y
  · intro k hk
    refine V_if_le (tgt := 27) hC dX3_rocks_20 (by decide) ?_ ?_
    · refine V_iconst (v := 0) hC dX3_rocks_27 rfl ?_
      exact hk 0
    · refine V_iconst (v := 1) hC dX3_rocks_23 rfl ?_
      refine V_goto (tgt := 28) hC dX3_rocks_24 (by decide) ?_
      exact hk 1
theorem c_X3_rocks {l : Launch} {d : Nat} (hd : 7 ≤ d) {σ : vMem} {a0 : Nat} {r : Int32 × vMem} (h : f_X3_rocks σ a0 = some r) : vOk l yX3_rocks cX3_rocks 6 (some .int) d [.ref a0] σ (.inl ((eI).1 r, (eI).2 r)) := V_method (em := eI) [some (.ref a0), none, none, none, none, none] (by decide +kernel) rfl (Nat.le_of_ble_eq_true rfl) (w_X3_rocks hd σ a0) h
/-! NobodyBeenAftModel.readsMess()Z -/
def f_X3_readsMess (σ : vMem) (a0 : Nat) : Option (Int32 × vMem) := cko σ a0 [3] (cko σ a0 [3] (if ¬ ((gi σ a0 7) + (gi σ a0 22)) = 8 then (cko σ a0 [3] (vl (2 * (gi σ a0 22)) (fun v1 => cko σ a0 [3] (dr (gr σ a0 21) (fun b => cko σ a0 [3] (bd (f_X3_number σ a0 2) (fun r σ_1 => cka σ_1 b 105 v1 (vl (si σ_1 b (Int32.toNatClampNeg v1) r) (fun σ_2 => cko σ_2 a0 [3] (dr (gr σ_2 a0 21) (fun b_1 => cka σ_2 b_1 105 v1 (if (gi σ_2 b_1 (Int32.toNatClampNeg v1)) < 0 then (some (0, σ_2)) else cko σ_2 a0 [3] (bd (f_X3_takes σ_2 a0 42) (fun r_1 σ_3 => if ¬ r_1 = 0 then (cko σ_3 a0 [3] (dr (gr σ_3 a0 21) (fun b_2 => cko σ_3 a0 [3] (bd (f_X3_number σ_3 a0 1) (fun r_2 σ_4 => cka σ_4 b_2 105 (v1 + 1) (vl (si σ_4 b_2 (Int32.toNatClampNeg (v1 + 1)) r_2) (fun σ_5 => cko σ_5 a0 [3] (cko σ_5 a0 [3] (vl (si σ_5 a0 22 ((gi σ_5 a0 22) + 1)) (fun σ_6 => cko σ_6 a0 [3] (dr (gr σ_6 a0 21) (fun b_3 => cka σ_6 b_3 105 (v1 + 1) (if (gi σ_6 b_3 (Int32.toNatClampNeg (v1 + 1))) < 0 then (some (0, σ_6)) else some (1, σ_6)))))))))))))) else some (0, σ_3))))))))))))))) else some (0, σ)))
abbrev P_X3_readsMess (l : Launch) (d n0 s0 : Nat) : vX → Prop := vMP l yX3_readsMess cX3_readsMess 2 (some .boolean) d n0 s0
theorem w_X3_readsMess {l : Launch} {d n0 s0 : Nat} (hd : 3 ≤ d) (σ : vMem) (a0 : Nat) : V (P_X3_readsMess l d n0 s0) (vEmb eI) σ 0 [some (.ref a0), none] [] (f_X3_readsMess σ a0) := by
  have hC : vPx (P_X3_readsMess l d n0 s0) cX3_readsMess 2 "NobodyBeenAftModel" (some .boolean) d := vMP_cx
  refine V_eq (f_X3_readsMess.eq_1 ..) ?_
  refine V_aload_n hC dX3_readsMess_0 rfl ?_
  refine g_X3_117 hC dX3_readsMess_1 ?_
  refine V_aload_n hC dX3_readsMess_4 rfl ?_
  refine g_X3_175 hC dX3_readsMess_5 ?_
  refine V_iadd hC dX3_readsMess_8 ?_
  refine V_bipush (v := 8) hC dX3_readsMess_9 rfl ?_
  refine V_icmp_ne (tgt := 16) hC dX3_readsMess_11 (by decide) ?_ ?_
  · refine V_iconst (v := 2) hC dX3_readsMess_16 rfl ?_
    refine V_aload_n hC dX3_readsMess_17 rfl ?_
    refine g_X3_175 hC dX3_readsMess_18 ?_
    refine V_imul hC dX3_readsMess_21 ?_
    refine V_istore_nL (ls' := fun v1 => [some (.ref a0), some (.int v1)]) hC dX3_readsMess_22 (by decide) rfl (fun _ => rfl) (fun v1 => ?_)
    refine V_aload_n hC dX3_readsMess_23 rfl ?_
    refine g_X3_43 hC dX3_readsMess_24 (fun b => ?_)
    refine V_iload_n hC dX3_readsMess_27 rfl ?_
    refine V_aload_n hC dX3_readsMess_28 rfl ?_
    refine V_iconst (v := 2) hC dX3_readsMess_29 rfl ?_
    refine V_cko (fun hm => V_callV_I (c := 3) (As := [.int 2]) (rest := [.int v1, .ref b]) (d' := 2) hC dX3_readsMess_30 1 (lw_V q1464 q1466 qs33 q87 q1467) (by decide +kernel) (List.mem_singleton.mp hm) (by decide) (by decide) rfl rfl rfl (Nat.le_of_ble_eq_true rfl) (Nat.le_trans (by decide) hd) (by decide) vMP_l (fun _ h => c_X3_number (Nat.le_refl _) h) (fun r σ_1 => ?_))
    refine V_iast hC dX3_readsMess_33 (fun σ_2 => ?_)
    refine V_aload_n hC dX3_readsMess_34 rfl ?_
    refine g_X3_43 hC dX3_readsMess_35 (fun b_1 => ?_)
    refine V_iload_n hC dX3_readsMess_38 rfl ?_
    refine V_iald hC dX3_readsMess_39 ?_
    refine V_if_lt (tgt := 52) hC dX3_readsMess_40 (by decide) ?_ ?_
    · refine V_iconst (v := 0) hC dX3_readsMess_52 rfl ?_
      exact V_zreturn rfl dX3_readsMess_53 rfl rfl
    · refine V_aload_n hC dX3_readsMess_43 rfl ?_
      refine V_bipush (v := 42) hC dX3_readsMess_44 rfl ?_
      refine V_cko (fun hm => V_callV_I (c := 3) (As := [.int 42]) (rest := []) (d' := 1) hC dX3_readsMess_46 1 (lw_V q1474 q1476 qs35 q87 q1477) (by decide +kernel) (List.mem_singleton.mp hm) (by decide) (by decide) rfl rfl rfl (Nat.le_of_ble_eq_true rfl) (Nat.le_trans (by decide) hd) (by decide) vMP_l (fun _ h => c_X3_takes (Nat.le_refl _) h) (fun r_1 σ_3 => ?_))
      refine V_if_ne (tgt := 54) hC dX3_readsMess_49 (by decide) ?_ ?_
      · refine V_aload_n hC dX3_readsMess_54 rfl ?_
        refine g_X3_43 hC dX3_readsMess_55 (fun b_2 => ?_)
        refine V_iload_n hC dX3_readsMess_58 rfl ?_
        refine V_iconst (v := 1) hC dX3_readsMess_59 rfl ?_
        refine V_iadd hC dX3_readsMess_60 ?_
        refine V_aload_n hC dX3_readsMess_61 rfl ?_
        refine V_iconst (v := 1) hC dX3_readsMess_62 rfl ?_
        refine V_cko (fun hm => V_callV_I (c := 3) (As := [.int 1]) (rest := [.int (v1 + 1), .ref b_2]) (d' := 2) hC dX3_readsMess_63 1 (lw_V q1464 q1466 qs33 q87 q1467) (by decide +kernel) (List.mem_singleton.mp hm) (by decide) (by decide) rfl rfl rfl (Nat.le_of_ble_eq_true rfl) (Nat.le_trans (by decide) hd) (by decide) vMP_l (fun _ h => c_X3_number (Nat.le_refl _) h) (fun r_2 σ_4 => ?_))
        refine V_iast hC dX3_readsMess_66 (fun σ_5 => ?_)
        refine V_aload_n hC dX3_readsMess_67 rfl ?_
        refine V_dup hC dX3_readsMess_68 rfl ?_
        refine g_X3_175 hC dX3_readsMess_69 ?_
        refine V_iconst (v := 1) hC dX3_readsMess_72 rfl ?_
        refine V_iadd hC dX3_readsMess_73 ?_
        refine p_X3_175 hC dX3_readsMess_74 (fun σ_6 => ?_)
        refine V_aload_n hC dX3_readsMess_77 rfl ?_
        refine g_X3_43 hC dX3_readsMess_78 (fun b_3 => ?_)
        refine V_iload_n hC dX3_readsMess_81 rfl ?_
        refine V_iconst (v := 1) hC dX3_readsMess_82 rfl ?_
        refine V_iadd hC dX3_readsMess_83 ?_
        refine V_iald hC dX3_readsMess_84 ?_
        refine V_if_lt (tgt := 92) hC dX3_readsMess_85 (by decide) ?_ ?_
        · refine V_iconst (v := 0) hC dX3_readsMess_92 rfl ?_
          exact V_zreturn rfl dX3_readsMess_93 rfl rfl
        · refine V_iconst (v := 1) hC dX3_readsMess_88 rfl ?_
          refine V_goto (tgt := 93) hC dX3_readsMess_89 (by decide) ?_
          exact V_zreturn rfl dX3_readsMess_93 rfl rfl
      · refine V_iconst (v := 0) hC dX3_readsMess_52 rfl ?_
        exact V_zreturn rfl dX3_readsMess_53 rfl rfl
  · refine V_iconst (v := 0) hC dX3_readsMess_14 rfl ?_
    exact V_zreturn rfl dX3_readsMess_15 rfl rfl
theorem c_X3_readsMess {l : Launch} {d : Nat} (hd : 3 ≤ d) {σ : vMem} {a0 : Nat} {r : Int32 × vMem} (h : f_X3_readsMess σ a0 = some r) : vOk l yX3_readsMess cX3_readsMess 2 (some .boolean) d [.ref a0] σ (.inl ((eI).1 r, (eI).2 r)) := V_method (em := eI) [some (.ref a0), none] (by decide +kernel) rfl (Nat.le_of_ble_eq_true rfl) (w_X3_readsMess hd σ a0) h
/-! NobodyBeenAftModel.messes()I -/
def f_X3_messes_81 (a0 : Nat) (k_2 : vMem → Option (Int32 × vMem)) : Nat → vMem → Int32 → Option (Int32 × vMem)
  | 0, _, _ => none
  | n + 1, σ_9, v5 => cko σ_9 a0 [3] (if (gi σ_9 a0 22) ≤ v5 then (k_2 σ_9) else cko σ_9 a0 [3] (dr (gr σ_9 a0 14) (fun b => cko σ_9 a0 [3] (cko σ_9 a0 [3] (dr (gr σ_9 a0 21) (fun b_1 => cka σ_9 b_1 105 (2 * v5) (cka σ_9 b 105 (41 + (gi σ_9 a0 7)) (vl (si σ_9 b (Int32.toNatClampNeg (41 + (gi σ_9 a0 7))) (gi σ_9 b_1 (Int32.toNatClampNeg (2 * v5)))) (fun σ_10 => cko σ_10 a0 [3] (dr (gr σ_10 a0 14) (fun b_2 => cko σ_10 a0 [3] (cka σ_10 b_2 105 (49 + (gi σ_10 a0 7)) (vl (si σ_10 b_2 (Int32.toNatClampNeg (49 + (gi σ_10 a0 7))) 0) (fun σ_11 => cko σ_11 a0 [3] (dr (gr σ_11 a0 13) (fun b_3 => cko σ_11 a0 [3] (cko σ_11 a0 [3] (dr (gr σ_11 a0 21) (fun b_4 => cka σ_11 b_4 105 ((2 * v5) + 1) (cka σ_11 b_3 105 (gi σ_11 a0 7) (vl (si σ_11 b_3 (Int32.toNatClampNeg (gi σ_11 a0 7)) (gi σ_11 b_4 (Int32.toNatClampNeg ((2 * v5) + 1)))) (fun σ_12 => cko σ_12 a0 [3] (cko σ_12 a0 [3] (vl (si σ_12 a0 7 ((gi σ_12 a0 7) + 1)) (fun σ_13 => vl (v5 + 1) (fun v5_1 => f_X3_messes_81 a0 k_2 n σ_13 v5_1))))))))))))))))))))))))))
def f_X3_messes_29 (a0 : Nat) (r : Int32) (k_1 : vMem → Int32 → Option (Int32 × vMem)) : Nat → vMem → Int32 → Int32 → Option (Int32 × vMem)
  | 0, _, _, _ => none
  | n_1 + 1, σ_14, v2_1, v3 => if v3 = 0 then (k_1 σ_14 v2_1) else cko σ_14 a0 [3] (bd (f_X3_readsMess σ_14 a0) (fun r_2 σ_15 => vl (fun (σ_16 : vMem) (y_1 : Int32) => f_X3_messes_29 a0 r k_1 n_1 σ_16 r_2 y_1) (fun k_4 => vl (fun (σ_17 : vMem) => k_4 σ_17 0) (fun k_5 => if r_2 = 0 then (k_5 σ_15) else cko σ_15 a0 [3] (bd (f_X3_takes σ_15 a0 59) (fun r_3 σ_18 => if r_3 = 0 then (k_5 σ_18) else k_4 σ_18 1))))))
def f_X3_messes (σ : vMem) (a0 : Nat) : Option (Int32 × vMem) := cko σ a0 [3] (vl (si σ a0 0 0) (fun σ_1 => cko σ_1 a0 [3] (bd (f_X3_begins σ_1 a0 39) (fun r σ_2 => cko σ_2 a0 [3] (vl (si σ_2 a0 22 0) (fun σ_3 => vl (fun (y : Int32) => vl (fun (σ_4 : vMem) (v2 : Int32) => cko σ_4 a0 [3] (bp (f_X3_faultOf σ_4 a0 r 39 v2) (fun r_1 => if 0 ≤ r_1 then (vl (fun (σ_5 : vMem) => cko σ_5 a0 [3] (vl (fun (σ_6 : vMem) => cko σ_6 a0 [3] (some ((gi σ_6 a0 22), σ_6))) (fun k_3 => if (gi σ_5 a0 22) ≤ 0 then (k_3 σ_5) else cko σ_5 a0 [3] (vl (si σ_5 a0 29 0) (fun σ_7 => cko σ_7 a0 [3] (cko σ_7 a0 [3] (vl (si σ_7 a0 8 ((gi σ_7 a0 8) + 1)) (fun σ_8 => k_3 σ_8)))))))) (fun k_2 => f_X3_messes_81 a0 k_2 FU σ_4 0)) else some (r_1, σ_4)))) (fun k_1 => f_X3_messes_29 a0 r k_1 FU σ_3 1 y)) (fun k => if r ≤ 0 then (k 0) else k 1)))))))
abbrev P_X3_messes (l : Launch) (d n0 s0 : Nat) : vX → Prop := vMP l yX3_messes cX3_messes 6 (some .int) d n0 s0
theorem w_X3_messes_81 {l : Launch} {d n0 s0 : Nat} (hd : 4 ≤ d) (a0 : Nat) (k_2 : vMem → Option (Int32 × vMem)) (hk_2 : ∀ (σ_5 : vMem), V (P_X3_messes l d n0 s0) (vEmb eI) σ_5 160 [some (.ref a0), none, none, none, none, none] [] (k_2 σ_5)) : ∀ (n : Nat) (σ_9 : vMem) (v5 : Int32), V (P_X3_messes l d n0 s0) (vEmb eI) σ_9 81 [some (.ref a0), none, none, none, none, some (.int v5)] [] (f_X3_messes_81 a0 k_2 n σ_9 v5) := by
  have hC : vPx (P_X3_messes l d n0 s0) cX3_messes 6 "NobodyBeenAftModel" (some .int) d := vMP_cx
  intro n
  induction n with
  | zero =>
    intro σ_9 v5
    exact V_none
  | succ n ih =>
    intro σ_9 v5
    refine V_eq (f_X3_messes_81.eq_2 ..) ?_
    refine V_iload hC dX3_messes_81 rfl ?_
    refine V_aload_n hC dX3_messes_83 rfl ?_
    refine g_X3_175 hC dX3_messes_84 ?_
    refine V_icmp_ge (tgt := 160) hC dX3_messes_87 (by decide) ?_ ?_
    · refine V_clr [5] (ls' := [some (.ref a0), none, none, none, none, none]) rfl ?_
      exact hk_2 σ_9
    · refine V_aload_n hC dX3_messes_90 rfl ?_
      refine g_X3_34 hC dX3_messes_91 (fun b => ?_)
      refine V_bipush (v := 41) hC dX3_messes_94 rfl ?_
      refine V_aload_n hC dX3_messes_96 rfl ?_
      refine g_X3_117 hC dX3_messes_97 ?_
      refine V_iadd hC dX3_messes_100 ?_
      refine V_aload_n hC dX3_messes_101 rfl ?_
      refine g_X3_43 hC dX3_messes_102 (fun b_1 => ?_)
      refine V_iconst (v := 2) hC dX3_messes_105 rfl ?_
      refine V_iload hC dX3_messes_106 rfl ?_
      refine V_imul hC dX3_messes_108 ?_
      refine V_iald hC dX3_messes_109 ?_
      refine V_iast hC dX3_messes_110 (fun σ_10 => ?_)
      refine V_aload_n hC dX3_messes_111 rfl ?_
      refine g_X3_34 hC dX3_messes_112 (fun b_2 => ?_)
      refine V_bipush (v := 49) hC dX3_messes_115 rfl ?_
      refine V_aload_n hC dX3_messes_117 rfl ?_
      refine g_X3_117 hC dX3_messes_118 ?_
      refine V_iadd hC dX3_messes_121 ?_
      refine V_iconst (v := 0) hC dX3_messes_122 rfl ?_
      refine V_iast hC dX3_messes_123 (fun σ_11 => ?_)
      refine V_aload_n hC dX3_messes_124 rfl ?_
      refine g_X3_31 hC dX3_messes_125 (fun b_3 => ?_)
      refine V_aload_n hC dX3_messes_128 rfl ?_
      refine g_X3_117 hC dX3_messes_129 ?_
      refine V_aload_n hC dX3_messes_132 rfl ?_
      refine g_X3_43 hC dX3_messes_133 (fun b_4 => ?_)
      refine V_iconst (v := 2) hC dX3_messes_136 rfl ?_
      refine V_iload hC dX3_messes_137 rfl ?_
      refine V_imul hC dX3_messes_139 ?_
      refine V_iconst (v := 1) hC dX3_messes_140 rfl ?_
      refine V_iadd hC dX3_messes_141 ?_
      refine V_iald hC dX3_messes_142 ?_
      refine V_iast hC dX3_messes_143 (fun σ_12 => ?_)
      refine V_aload_n hC dX3_messes_144 rfl ?_
      refine V_dup hC dX3_messes_145 rfl ?_
      refine g_X3_117 hC dX3_messes_146 ?_
      refine V_iconst (v := 1) hC dX3_messes_149 rfl ?_
      refine V_iadd hC dX3_messes_150 ?_
      refine p_X3_117 hC dX3_messes_151 (fun σ_13 => ?_)
      refine V_iincL (v := v5 + 1) (ls' := fun v5_1 => [some (.ref a0), none, none, none, none, some (.int v5_1)]) hC dX3_messes_154 rfl (by decide) rfl rfl (fun _ => rfl) (fun v5_1 => ?_)
      refine V_goto (tgt := 81) hC dX3_messes_157 (by decide) ?_
      exact ih σ_13 v5_1
theorem w_X3_messes_29 {l : Launch} {d n0 s0 : Nat} (hd : 4 ≤ d) (a0 : Nat) (r : Int32) (k_1 : vMem → Int32 → Option (Int32 × vMem)) (hk_1 : ∀ (σ_4 : vMem), ∀ (v2 : Int32), V (P_X3_messes l d n0 s0) (vEmb eI) σ_4 60 [some (.ref a0), some (.int r), some (.int v2), none, none, none] [] (k_1 σ_4 v2)) : ∀ (n_1 : Nat) (σ_14 : vMem) (v2_1 : Int32) (v3 : Int32), V (P_X3_messes l d n0 s0) (vEmb eI) σ_14 29 [some (.ref a0), some (.int r), some (.int v2_1), some (.int v3), none, none] [] (f_X3_messes_29 a0 r k_1 n_1 σ_14 v2_1 v3) := by
  have hC : vPx (P_X3_messes l d n0 s0) cX3_messes 6 "NobodyBeenAftModel" (some .int) d := vMP_cx
  intro n_1
  induction n_1 with
  | zero =>
    intro σ_14 v2_1 v3
    exact V_none
  | succ n_1 ih =>
    intro σ_14 v2_1 v3
    refine V_eq (f_X3_messes_29.eq_2 ..) ?_
    refine V_iload_n hC dX3_messes_29 rfl ?_
    refine V_if_eq (tgt := 60) hC dX3_messes_30 (by decide) ?_ ?_
    · refine V_clr [3] (ls' := [some (.ref a0), some (.int r), some (.int v2_1), none, none, none]) rfl ?_
      exact hk_1 σ_14 v2_1
    · refine V_aload_n hC dX3_messes_33 rfl ?_
      refine V_cko (fun hm => V_callV_I (c := 3) (As := []) (rest := []) (d' := 3) hC dX3_messes_34 0 (lw_V q1554 q1556 qs40 q87 q1557) (by decide +kernel) (List.mem_singleton.mp hm) (by decide) (by decide) rfl rfl rfl (Nat.le_of_ble_eq_true rfl) (Nat.le_trans (by decide) hd) (by decide) vMP_l (fun _ h => c_X3_readsMess (Nat.le_refl _) h) (fun r_2 σ_15 => ?_))
      refine V_istore_n (ls' := [some (.ref a0), some (.int r), some (.int r_2), some (.int v3), none, none]) hC dX3_messes_37 (by decide) rfl rfl ?_
      refine V_iload_n hC dX3_messes_38 rfl ?_
      refine V_let (B := fun k_4 => ∀ (σ_16 : vMem), ∀ (y_1 : Int32), V (P_X3_messes l d n0 s0) (vEmb eI) σ_16 56 [some (.ref a0), some (.int r), some (.int r_2), none, none, none] [.int y_1] (k_4 σ_16 y_1)) ?_ ?_
      · intro σ_16 y_1
        refine V_istore_n (ls' := [some (.ref a0), some (.int r), some (.int r_2), some (.int y_1), none, none]) hC dX3_messes_56 (by decide) rfl rfl ?_
        refine V_goto (tgt := 29) hC dX3_messes_57 (by decide) ?_
        exact ih σ_16 r_2 y_1
      · intro k_4 hk_4
        refine V_let (B := fun k_5 => ∀ (σ_17 : vMem), V (P_X3_messes l d n0 s0) (vEmb eI) σ_17 55 [some (.ref a0), some (.int r), some (.int r_2), none, none, none] [] (k_5 σ_17)) ?_ ?_
        · intro σ_17
          refine V_iconst (v := 0) hC dX3_messes_55 rfl ?_
          exact hk_4 σ_17 0
        · intro k_5 hk_5
          refine V_if_eq (tgt := 55) hC dX3_messes_39 (by decide) ?_ ?_
          · refine V_clr [3] (ls' := [some (.ref a0), some (.int r), some (.int r_2), none, none, none]) rfl ?_
            exact hk_5 σ_15
          · refine V_aload_n hC dX3_messes_42 rfl ?_
            refine V_bipush (v := 59) hC dX3_messes_43 rfl ?_
            refine V_cko (fun hm => V_callV_I (c := 3) (As := [.int 59]) (rest := []) (d' := 1) hC dX3_messes_45 1 (lw_V q1474 q1476 qs35 q87 q1477) (by decide +kernel) (List.mem_singleton.mp hm) (by decide) (by decide) rfl rfl rfl (Nat.le_of_ble_eq_true rfl) (Nat.le_trans (by decide) hd) (by decide) vMP_l (fun _ h => c_X3_takes (Nat.le_refl _) h) (fun r_3 σ_18 => ?_))
            refine V_if_eq (tgt := 55) hC dX3_messes_48 (by decide) ?_ ?_
            · refine V_clr [3] (ls' := [some (.ref a0), some (.int r), some (.int r_2), none, none, none]) rfl ?_
              exact hk_5 σ_18
            · refine V_iconst (v := 1) hC dX3_messes_51 rfl ?_
              refine V_goto (tgt := 56) hC dX3_messes_52 (by decide) ?_
              refine V_clr [3] (ls' := [some (.ref a0), some (.int r), some (.int r_2), none, none, none]) rfl ?_
              exact hk_4 σ_18 1
theorem w_X3_messes {l : Launch} {d n0 s0 : Nat} (hd : 4 ≤ d) (σ : vMem) (a0 : Nat) : V (P_X3_messes l d n0 s0) (vEmb eI) σ 0 [some (.ref a0), none, none, none, none, none] [] (f_X3_messes σ a0) := by
  have hC : vPx (P_X3_messes l d n0 s0) cX3_messes 6 "NobodyBeenAftModel" (some .int) d := vMP_cx
  refine V_eq (f_X3_messes.eq_1 ..) ?_
  refine V_aload_n hC dX3_messes_0 rfl ?_
  refine V_iconst (v := 0) hC dX3_messes_1 rfl ?_
  refine p_X3_103 hC dX3_messes_2 (fun σ_1 => ?_)
  refine V_aload_n hC dX3_messes_5 rfl ?_
  refine V_bipush (v := 39) hC dX3_messes_6 rfl ?_
  refine V_cko (fun hm => V_callV_I (c := 3) (As := [.int 39]) (rest := []) (d' := 0) hC dX3_messes_8 1 (lw_V q1455 q1457 qs31 q87 q1458) (by decide +kernel) (List.mem_singleton.mp hm) (by decide) (by decide) rfl rfl rfl (Nat.le_of_ble_eq_true rfl) (Nat.le_trans (by decide) hd) (by decide) vMP_l (fun _ h => c_X3_begins (Nat.le_refl _) h) (fun r σ_2 => ?_))
  refine V_istore_n (ls' := [some (.ref a0), some (.int r), none, none, none, none]) hC dX3_messes_11 (by decide) rfl rfl ?_
  refine V_aload_n hC dX3_messes_12 rfl ?_
  refine V_iconst (v := 0) hC dX3_messes_13 rfl ?_
  refine p_X3_175 hC dX3_messes_14 (fun σ_3 => ?_)
  refine V_iconst (v := 1) hC dX3_messes_17 rfl ?_
  refine V_istore_n (ls' := [some (.ref a0), some (.int r), some (.int 1), none, none, none]) hC dX3_messes_18 (by decide) rfl rfl ?_
  refine V_iload_n hC dX3_messes_19 rfl ?_
  refine V_let (B := fun k => ∀ (y : Int32), V (P_X3_messes l d n0 s0) (vEmb eI) σ_3 28 [some (.ref a0), some (.int r), some (.int 1), none, none, none] [.int y] (k y)) ?_ ?_
  · intro y
    refine V_istore_n (ls' := [some (.ref a0), some (.int r), some (.int 1), some (.int y), none, none]) hC dX3_messes_28 (by decide) rfl rfl ?_
    refine V_let (B := fun k_1 => ∀ (σ_4 : vMem), ∀ (v2 : Int32), V (P_X3_messes l d n0 s0) (vEmb eI) σ_4 60 [some (.ref a0), some (.int r), some (.int v2), none, none, none] [] (k_1 σ_4 v2)) ?_ ?_
    · intro σ_4 v2
      refine V_aload_n hC dX3_messes_60 rfl ?_
      refine V_iload_n hC dX3_messes_61 rfl ?_
      refine V_bipush (v := 39) hC dX3_messes_62 rfl ?_
      refine V_iload_n hC dX3_messes_64 rfl ?_
      refine V_cko (fun hm => V_callV_PI (c := 3) (As := [.int r, .int 39, .int v2]) (rest := []) (d' := 0) hC dX3_messes_65 3 (lw_V q1481 q1483 qs36 q87 q1484) (by decide +kernel) (List.mem_singleton.mp hm) (by decide) (by decide) rfl rfl rfl (Nat.le_of_ble_eq_true rfl) (Nat.le_trans (by decide) hd) (by decide) vMP_l (fun _ h => c_X3_faultOf (Nat.le_refl _) h) (fun r_1 => ?_))
      refine V_istore (ls' := [some (.ref a0), some (.int r), some (.int v2), none, some (.int r_1), none]) hC dX3_messes_68 (by decide) rfl rfl ?_
      refine V_iload hC dX3_messes_70 rfl ?_
      refine V_if_ge (tgt := 78) hC dX3_messes_72 (by decide) ?_ ?_
      · refine V_iconst (v := 0) hC dX3_messes_78 rfl ?_
        refine V_istore (ls' := [some (.ref a0), some (.int r), some (.int v2), none, some (.int r_1), some (.int 0)]) hC dX3_messes_79 (by decide) rfl rfl ?_
        refine V_let (B := fun k_2 => ∀ (σ_5 : vMem), V (P_X3_messes l d n0 s0) (vEmb eI) σ_5 160 [some (.ref a0), none, none, none, none, none] [] (k_2 σ_5)) ?_ ?_
        · intro σ_5
          refine V_aload_n hC dX3_messes_160 rfl ?_
          refine g_X3_175 hC dX3_messes_161 ?_
          refine V_let (B := fun k_3 => ∀ (σ_6 : vMem), V (P_X3_messes l d n0 s0) (vEmb eI) σ_6 182 [some (.ref a0), none, none, none, none, none] [] (k_3 σ_6)) ?_ ?_
          · intro σ_6
            refine V_aload_n hC dX3_messes_182 rfl ?_
            refine g_X3_175 hC dX3_messes_183 ?_
            exact V_ireturn dX3_messes_186 rfl rfl
          · intro k_3 hk_3
            refine V_if_le (tgt := 182) hC dX3_messes_164 (by decide) ?_ ?_
            · exact hk_3 σ_5
            · refine V_aload_n hC dX3_messes_167 rfl ?_
              refine V_iconst (v := 0) hC dX3_messes_168 rfl ?_
              refine p_X3_210 hC dX3_messes_169 (fun σ_7 => ?_)
              refine V_aload_n hC dX3_messes_172 rfl ?_
              refine V_dup hC dX3_messes_173 rfl ?_
              refine g_X3_213 hC dX3_messes_174 ?_
              refine V_iconst (v := 1) hC dX3_messes_177 rfl ?_
              refine V_iadd hC dX3_messes_178 ?_
              refine p_X3_213 hC dX3_messes_179 (fun σ_8 => ?_)
              exact hk_3 σ_8
        · intro k_2 hk_2
          refine V_clr [1, 2, 4] (ls' := [some (.ref a0), none, none, none, none, some (.int 0)]) rfl ?_
          exact (w_X3_messes_81 hd a0 k_2 hk_2) FU σ_4 0
      · refine V_iload hC dX3_messes_75 rfl ?_
        exact V_ireturn dX3_messes_77 rfl rfl
    · intro k_1 hk_1
      exact (w_X3_messes_29 hd a0 r k_1 hk_1) FU σ_3 1 y
  · intro k hk
    refine V_if_le (tgt := 27) hC dX3_messes_20 (by decide) ?_ ?_
    · refine V_iconst (v := 0) hC dX3_messes_27 rfl ?_
      exact hk 0
    · refine V_iconst (v := 1) hC dX3_messes_23 rfl ?_
      refine V_goto (tgt := 28) hC dX3_messes_24 (by decide) ?_
      exact hk 1
theorem c_X3_messes {l : Launch} {d : Nat} (hd : 4 ≤ d) {σ : vMem} {a0 : Nat} {r : Int32 × vMem} (h : f_X3_messes σ a0 = some r) : vOk l yX3_messes cX3_messes 6 (some .int) d [.ref a0] σ (.inl ((eI).1 r, (eI).2 r)) := V_method (em := eI) [some (.ref a0), none, none, none, none, none] (by decide +kernel) rfl (Nat.le_of_ble_eq_true rfl) (w_X3_messes hd σ a0) h
/-! NobodyBeenAftModel.codes(I)V -/
def f_X3_codes (σ : vMem) (a0 : Nat) (x1 : Int32) : Option (vMem) := cko σ a0 [3] (dr (gr σ a0 24) (fun b => cko σ a0 [3] (cka σ b 105 (gi σ a0 26) (vl (si σ b (Int32.toNatClampNeg (gi σ a0 26)) x1) (fun σ_1 => cko σ_1 a0 [3] (cko σ_1 a0 [3] (vl (si σ_1 a0 26 ((gi σ_1 a0 26) + 1)) (fun σ_2 => some σ_2))))))))
abbrev P_X3_codes (l : Launch) (d n0 s0 : Nat) : vX → Prop := vMP l yX3_codes cX3_codes 2 none d n0 s0
theorem w_X3_codes {l : Launch} {d n0 s0 : Nat} (hd : 0 ≤ d) (σ : vMem) (a0 : Nat) (x1 : Int32) : V (P_X3_codes l d n0 s0) (vEmb eV) σ 0 [some (.ref a0), some (.int x1)] [] (f_X3_codes σ a0 x1) := by
  have hC : vPx (P_X3_codes l d n0 s0) cX3_codes 2 "NobodyBeenAftModel" none d := vMP_cx
  refine V_eq (f_X3_codes.eq_1 ..) ?_
  refine V_aload_n hC dX3_codes_0 rfl ?_
  refine g_X3_49 hC dX3_codes_1 (fun b => ?_)
  refine V_aload_n hC dX3_codes_4 rfl ?_
  refine g_X3_216 hC dX3_codes_5 ?_
  refine V_iload_n hC dX3_codes_8 rfl ?_
  refine V_iast hC dX3_codes_9 (fun σ_1 => ?_)
  refine V_aload_n hC dX3_codes_10 rfl ?_
  refine V_dup hC dX3_codes_11 rfl ?_
  refine g_X3_216 hC dX3_codes_12 ?_
  refine V_iconst (v := 1) hC dX3_codes_15 rfl ?_
  refine V_iadd hC dX3_codes_16 ?_
  refine p_X3_216 hC dX3_codes_17 (fun σ_2 => ?_)
  exact V_return dX3_codes_20 rfl rfl
theorem c_X3_codes {l : Launch} {d : Nat} (hd : 0 ≤ d) {σ : vMem} {a0 : Nat} {x1 : Int32} {r : vMem} (h : f_X3_codes σ a0 x1 = some r) : vOk l yX3_codes cX3_codes 2 none d [.ref a0, .int x1] σ (.inl ((eV).1 r, (eV).2 r)) := V_method (em := eV) [some (.ref a0), some (.int x1)] (by decide +kernel) rfl (Nat.le_of_ble_eq_true rfl) (w_X3_codes hd σ a0 x1) h
/-! NobodyBeenAftModel.readsThing()Z -/
def f_X3_readsThing_b (t_X3_readsThing : vMem → Nat → Option (Int32 × vMem)) (t_X3_readsRank : vMem → Nat → Int32 → Option (Int32 × vMem)) (σ : vMem) (a0 : Nat) : Option (Int32 × vMem) := cko σ a0 [3] (bd (f_X3_takes σ a0 45) (fun r σ_1 => if r = 0 then (cko σ_1 a0 [3] (bp (f_X3_isDigit σ_1 a0) (fun r_1 => if r_1 = 0 then (cko σ_1 a0 [3] (bd (f_X3_takesOf σ_1 a0 (SB + 1)) (fun r_2 σ_2 => if r_2 < 0 then (cko σ_2 a0 [3] (if (gi σ_2 a0 20) = 4 then (some (0, σ_2)) else cko σ_2 a0 [3] (bd (f_X3_takes σ_2 a0 40) (fun r_3 σ_3 => if ¬ r_3 = 0 then (cko σ_3 a0 [3] (cko σ_3 a0 [3] (vl (si σ_3 a0 20 ((gi σ_3 a0 20) + 1)) (fun σ_4 => cko σ_4 a0 [3] (bd (t_X3_readsRank σ_4 a0 0) (fun r_4 σ_5 => if r_4 = 0 then (some (0, σ_5)) else cko σ_5 a0 [3] (bd (f_X3_takes σ_5 a0 41) (fun r_5 σ_6 => if ¬ r_5 = 0 then (cko σ_6 a0 [3] (cko σ_6 a0 [3] (vl (si σ_6 a0 20 ((gi σ_6 a0 20) - 1)) (fun σ_7 => some (1, σ_7))))) else some (0, σ_6))))))))) else some (0, σ_3))))) else cko σ_2 a0 [3] (bv (f_X3_codes σ_2 a0 (1000 + r_2)) (fun σ_8 => some (1, σ_8)))))) else cko σ_1 a0 [3] (bd (f_X3_number σ_1 a0 3) (fun r_6 σ_9 => cko σ_9 a0 [3] (bv (f_X3_codes σ_9 a0 r_6) (fun σ_10 => some (1, σ_10)))))))) else cko σ_1 a0 [3] (bd (t_X3_readsThing σ_1 a0) (fun r_7 σ_11 => cko σ_11 a0 [3] (bv (f_X3_codes σ_11 a0 3000) (fun σ_12 => ck (narrow .boolean (.int r_7) = .int r_7) (some (r_7, σ_12))))))))
abbrev P_X3_readsThing (l : Launch) (d n0 s0 : Nat) : vX → Prop := vMP l yX3_readsThing cX3_readsThing 2 (some .boolean) d n0 s0
theorem w_X3_readsThing {l : Launch} {d n0 s0 : Nat} (hd : 6 ≤ d) (t_X3_readsThing : vMem → Nat → Option (Int32 × vMem)) (t_X3_readsRank : vMem → Nat → Int32 → Option (Int32 × vMem)) {d1 : Nat} (hd1 : d1 + 1 ≤ d) (h_X3_readsThing : ∀ {σ : vMem} {a0 : Nat} {r : Int32 × vMem}, t_X3_readsThing σ a0 = some r → vOk l yX3_readsThing cX3_readsThing 2 (some .boolean) d1 [.ref a0] σ (.inl (eI.1 r, eI.2 r))) (h_X3_readsRank : ∀ {σ : vMem} {a0 : Nat} {x1 : Int32} {r : Int32 × vMem}, t_X3_readsRank σ a0 x1 = some r → vOk l yX3_readsRank cX3_readsRank 4 (some .boolean) d1 [.ref a0, .int x1] σ (.inl (eI.1 r, eI.2 r))) (σ : vMem) (a0 : Nat) : V (P_X3_readsThing l d n0 s0) (vEmb eI) σ 0 [some (.ref a0), none] [] (f_X3_readsThing_b t_X3_readsThing t_X3_readsRank σ a0) := by
  have hC : vPx (P_X3_readsThing l d n0 s0) cX3_readsThing 2 "NobodyBeenAftModel" (some .boolean) d := vMP_cx
  refine V_eq (f_X3_readsThing_b.eq_1 ..) ?_
  refine V_aload_n hC dX3_readsThing_0 rfl ?_
  refine V_bipush (v := 45) hC dX3_readsThing_1 rfl ?_
  refine V_cko (fun hm => V_callV_I (c := 3) (As := [.int 45]) (rest := []) (d' := 1) hC dX3_readsThing_3 1 (lw_V q1474 q1476 qs35 q87 q1477) (by decide +kernel) (List.mem_singleton.mp hm) (by decide) (by decide) rfl rfl rfl (Nat.le_of_ble_eq_true rfl) (Nat.le_trans (by decide) hd) (by decide) vMP_l (fun _ h => c_X3_takes (Nat.le_refl _) h) (fun r σ_1 => ?_))
  refine V_if_eq (tgt := 23) hC dX3_readsThing_6 (by decide) ?_ ?_
  · refine V_aload_n hC dX3_readsThing_23 rfl ?_
    refine V_cko (fun hm => V_callV_PI (c := 3) (As := []) (rest := []) (d' := 1) hC dX3_readsThing_24 0 (lw_V q1468 q1470 qs34 q87 q1471) (by decide +kernel) (List.mem_singleton.mp hm) (by decide) (by decide) rfl rfl rfl (Nat.le_of_ble_eq_true rfl) (Nat.le_trans (by decide) hd) (by decide) vMP_l (fun _ h => c_X3_isDigit (Nat.le_refl _) h) (fun r_1 => ?_))
    refine V_if_eq (tgt := 41) hC dX3_readsThing_27 (by decide) ?_ ?_
    · refine V_aload_n hC dX3_readsThing_41 rfl ?_
      refine V_ldcS 1 (by decide) hC dX3_readsThing_42 rfl ?_
      refine V_cko (fun hm => V_callV_I (c := 3) (As := [.ref (SB + 1)]) (rest := []) (d' := 5) hC dX3_readsThing_44 1 (lw_V q1494 q1496 qs38 q87 q1497) (by decide +kernel) (List.mem_singleton.mp hm) (by decide) (by decide) rfl rfl rfl (Nat.le_of_ble_eq_true rfl) (Nat.le_trans (by decide) hd) (by decide) vMP_l (fun _ h => c_X3_takesOf (Nat.le_refl _) h) (fun r_2 σ_2 => ?_))
      refine V_istore_n (ls' := [some (.ref a0), some (.int r_2)]) hC dX3_readsThing_47 (by decide) rfl rfl ?_
      refine V_iload_n hC dX3_readsThing_48 rfl ?_
      refine V_if_lt (tgt := 63) hC dX3_readsThing_49 (by decide) ?_ ?_
      · refine V_aload_n hC dX3_readsThing_63 rfl ?_
        refine g_X3_130 hC dX3_readsThing_64 ?_
        refine V_iconst (v := 4) hC dX3_readsThing_67 rfl ?_
        refine V_icmp_eq (tgt := 80) hC dX3_readsThing_68 (by decide) ?_ ?_
        · refine V_iconst (v := 0) hC dX3_readsThing_80 rfl ?_
          exact V_zreturn rfl dX3_readsThing_81 rfl rfl
        · refine V_aload_n hC dX3_readsThing_71 rfl ?_
          refine V_bipush (v := 40) hC dX3_readsThing_72 rfl ?_
          refine V_cko (fun hm => V_callV_I (c := 3) (As := [.int 40]) (rest := []) (d' := 1) hC dX3_readsThing_74 1 (lw_V q1474 q1476 qs35 q87 q1477) (by decide +kernel) (List.mem_singleton.mp hm) (by decide) (by decide) rfl rfl rfl (Nat.le_of_ble_eq_true rfl) (Nat.le_trans (by decide) hd) (by decide) vMP_l (fun _ h => c_X3_takes (Nat.le_refl _) h) (fun r_3 σ_3 => ?_))
          refine V_if_ne (tgt := 82) hC dX3_readsThing_77 (by decide) ?_ ?_
          · refine V_aload_n hC dX3_readsThing_82 rfl ?_
            refine V_dup hC dX3_readsThing_83 rfl ?_
            refine g_X3_130 hC dX3_readsThing_84 ?_
            refine V_iconst (v := 1) hC dX3_readsThing_87 rfl ?_
            refine V_iadd hC dX3_readsThing_88 ?_
            refine p_X3_130 hC dX3_readsThing_89 (fun σ_4 => ?_)
            refine V_aload_n hC dX3_readsThing_92 rfl ?_
            refine V_iconst (v := 0) hC dX3_readsThing_93 rfl ?_
            refine V_cko (fun hm => V_callV_I (c := 3) (As := [.int 0]) (rest := []) (d' := d1) hC dX3_readsThing_94 1 (lw_V q1562 q1564 qs41 q87 q1565) (by decide +kernel) (List.mem_singleton.mp hm) (by decide) (by decide) rfl rfl rfl (Nat.le_of_ble_eq_true rfl) hd1 (by decide) vMP_l (fun _ h => h_X3_readsRank h) (fun r_4 σ_5 => ?_))
            refine V_if_eq (tgt := 109) hC dX3_readsThing_97 (by decide) ?_ ?_
            · refine V_iconst (v := 0) hC dX3_readsThing_109 rfl ?_
              exact V_zreturn rfl dX3_readsThing_110 rfl rfl
            · refine V_aload_n hC dX3_readsThing_100 rfl ?_
              refine V_bipush (v := 41) hC dX3_readsThing_101 rfl ?_
              refine V_cko (fun hm => V_callV_I (c := 3) (As := [.int 41]) (rest := []) (d' := 1) hC dX3_readsThing_103 1 (lw_V q1474 q1476 qs35 q87 q1477) (by decide +kernel) (List.mem_singleton.mp hm) (by decide) (by decide) rfl rfl rfl (Nat.le_of_ble_eq_true rfl) (Nat.le_trans (by decide) hd) (by decide) vMP_l (fun _ h => c_X3_takes (Nat.le_refl _) h) (fun r_5 σ_6 => ?_))
              refine V_if_ne (tgt := 111) hC dX3_readsThing_106 (by decide) ?_ ?_
              · refine V_aload_n hC dX3_readsThing_111 rfl ?_
                refine V_dup hC dX3_readsThing_112 rfl ?_
                refine g_X3_130 hC dX3_readsThing_113 ?_
                refine V_iconst (v := 1) hC dX3_readsThing_116 rfl ?_
                refine V_isub hC dX3_readsThing_117 ?_
                refine p_X3_130 hC dX3_readsThing_118 (fun σ_7 => ?_)
                refine V_iconst (v := 1) hC dX3_readsThing_121 rfl ?_
                exact V_zreturn rfl dX3_readsThing_122 rfl rfl
              · refine V_iconst (v := 0) hC dX3_readsThing_109 rfl ?_
                exact V_zreturn rfl dX3_readsThing_110 rfl rfl
          · refine V_iconst (v := 0) hC dX3_readsThing_80 rfl ?_
            exact V_zreturn rfl dX3_readsThing_81 rfl rfl
      · refine V_aload_n hC dX3_readsThing_52 rfl ?_
        refine V_sipush (v := 1000) hC dX3_readsThing_53 rfl ?_
        refine V_iload_n hC dX3_readsThing_56 rfl ?_
        refine V_iadd hC dX3_readsThing_57 ?_
        refine V_cko (fun hm => V_callV_V (c := 3) (As := [.int (1000 + r_2)]) (rest := []) (d' := 0) hC dX3_readsThing_58 1 (lw_V q1570 q1572 qs43 q87 q1573) (by decide +kernel) (List.mem_singleton.mp hm) (by decide) (by decide) rfl rfl rfl (Nat.le_of_ble_eq_true rfl) (Nat.le_trans (by decide) hd) (by decide) vMP_l (fun _ h => c_X3_codes (Nat.le_refl _) h) (fun σ_8 => ?_))
        refine V_iconst (v := 1) hC dX3_readsThing_61 rfl ?_
        exact V_zreturn rfl dX3_readsThing_62 rfl rfl
    · refine V_aload_n hC dX3_readsThing_30 rfl ?_
      refine V_aload_n hC dX3_readsThing_31 rfl ?_
      refine V_iconst (v := 3) hC dX3_readsThing_32 rfl ?_
      refine V_cko (fun hm => V_callV_I (c := 3) (As := [.int 3]) (rest := [.ref a0]) (d' := 2) hC dX3_readsThing_33 1 (lw_V q1464 q1466 qs33 q87 q1467) (by decide +kernel) (List.mem_singleton.mp hm) (by decide) (by decide) rfl rfl rfl (Nat.le_of_ble_eq_true rfl) (Nat.le_trans (by decide) hd) (by decide) vMP_l (fun _ h => c_X3_number (Nat.le_refl _) h) (fun r_6 σ_9 => ?_))
      refine V_cko (fun hm => V_callV_V (c := 3) (As := [.int r_6]) (rest := []) (d' := 0) hC dX3_readsThing_36 1 (lw_V q1570 q1572 qs43 q87 q1573) (by decide +kernel) (List.mem_singleton.mp hm) (by decide) (by decide) rfl rfl rfl (Nat.le_of_ble_eq_true rfl) (Nat.le_trans (by decide) hd) (by decide) vMP_l (fun _ h => c_X3_codes (Nat.le_refl _) h) (fun σ_10 => ?_))
      refine V_iconst (v := 1) hC dX3_readsThing_39 rfl ?_
      exact V_zreturn rfl dX3_readsThing_40 rfl rfl
  · refine V_aload_n hC dX3_readsThing_9 rfl ?_
    refine V_cko (fun hm => V_callV_I (c := 3) (As := []) (rest := []) (d' := d1) hC dX3_readsThing_10 0 (lw_V q1566 q1568 qs42 q87 q1569) (by decide +kernel) (List.mem_singleton.mp hm) (by decide) (by decide) rfl rfl rfl (Nat.le_of_ble_eq_true rfl) hd1 (by decide) vMP_l (fun _ h => h_X3_readsThing h) (fun r_7 σ_11 => ?_))
    refine V_istore_n (ls' := [some (.ref a0), some (.int r_7)]) hC dX3_readsThing_13 (by decide) rfl rfl ?_
    refine V_aload_n hC dX3_readsThing_14 rfl ?_
    refine V_sipush (v := 3000) hC dX3_readsThing_15 rfl ?_
    refine V_cko (fun hm => V_callV_V (c := 3) (As := [.int 3000]) (rest := []) (d' := 0) hC dX3_readsThing_18 1 (lw_V q1570 q1572 qs43 q87 q1573) (by decide +kernel) (List.mem_singleton.mp hm) (by decide) (by decide) rfl rfl rfl (Nat.le_of_ble_eq_true rfl) (Nat.le_trans (by decide) hd) (by decide) vMP_l (fun _ h => c_X3_codes (Nat.le_refl _) h) (fun σ_12 => ?_))
    refine V_iload_n hC dX3_readsThing_21 rfl ?_
    exact V_ck (fun h9 => V_zreturn h9 dX3_readsThing_22 rfl rfl)
theorem c_X3_readsThing_b {l : Launch} {d : Nat} (hd : 6 ≤ d) (t_X3_readsThing : vMem → Nat → Option (Int32 × vMem)) (t_X3_readsRank : vMem → Nat → Int32 → Option (Int32 × vMem)) {d1 : Nat} (hd1 : d1 + 1 ≤ d) (h_X3_readsThing : ∀ {σ : vMem} {a0 : Nat} {r : Int32 × vMem}, t_X3_readsThing σ a0 = some r → vOk l yX3_readsThing cX3_readsThing 2 (some .boolean) d1 [.ref a0] σ (.inl (eI.1 r, eI.2 r))) (h_X3_readsRank : ∀ {σ : vMem} {a0 : Nat} {x1 : Int32} {r : Int32 × vMem}, t_X3_readsRank σ a0 x1 = some r → vOk l yX3_readsRank cX3_readsRank 4 (some .boolean) d1 [.ref a0, .int x1] σ (.inl (eI.1 r, eI.2 r))) {σ : vMem} {a0 : Nat} {r : Int32 × vMem} (h : f_X3_readsThing_b t_X3_readsThing t_X3_readsRank σ a0 = some r) : vOk l yX3_readsThing cX3_readsThing 2 (some .boolean) d [.ref a0] σ (.inl ((eI).1 r, (eI).2 r)) := V_method (em := eI) [some (.ref a0), none] (by decide +kernel) rfl (Nat.le_of_ble_eq_true rfl) (w_X3_readsThing hd t_X3_readsThing t_X3_readsRank hd1 h_X3_readsThing h_X3_readsRank σ a0) h
/-! NobodyBeenAftModel.readsRank(I)Z -/
def f_X3_readsRank_24 (t_X3_readsRank : vMem → Nat → Int32 → Option (Int32 × vMem)) (a0 : Nat) (x1 : Int32) : Nat → vMem → Int32 → Option (Int32 × vMem)
  | 0, _, _ => none
  | n + 1, σ_2, v2 => if v2 = 0 then (some (1, σ_2)) else vl (fun (y : Nat) => cko σ_2 a0 [3] (bd (f_X3_takesOf σ_2 a0 y) (fun r_1 σ_3 => if 0 ≤ r_1 then (cko σ_3 a0 [3] (bd (t_X3_readsRank σ_3 a0 (x1 + 1)) (fun r_2 σ_4 => if ¬ r_2 = 0 then (vl (fun (y_1 : Int32) => cko σ_4 a0 [3] (bv (f_X3_codes σ_4 a0 ((2000 + r_1) + y_1)) (fun σ_5 => vl (fun (y_2 : Int32) => f_X3_readsRank_24 t_X3_readsRank a0 x1 n σ_5 y_2) (fun k_2 => if x1 ≤ 0 then (k_2 0) else k_2 1)))) (fun k_1 => if ¬ x1 = 0 then (if ¬ x1 = 1 then (k_1 5) else k_1 3) else k_1 0)) else some (0, σ_4)))) else some (1, σ_3)))) (fun k => if ¬ x1 = 0 then (if ¬ x1 = 1 then (k (SB + 4)) else k (SB + 3)) else k (SB + 2))
def f_X3_readsRank_b (t_X3_readsThing : vMem → Nat → Option (Int32 × vMem)) (t_X3_readsRank : vMem → Nat → Int32 → Option (Int32 × vMem)) (σ : vMem) (a0 : Nat) (x1 : Int32) : Option (Int32 × vMem) := if ¬ x1 = 3 then (cko σ a0 [3] (bd (t_X3_readsRank σ a0 (x1 + 1)) (fun r σ_1 => if ¬ r = 0 then (f_X3_readsRank_24 t_X3_readsRank a0 x1 FU σ_1 1) else some (0, σ_1)))) else cko σ a0 [3] (bd (t_X3_readsThing σ a0) (fun r_3 σ_6 => ck (narrow .boolean (.int r_3) = .int r_3) (some (r_3, σ_6))))
abbrev P_X3_readsRank (l : Launch) (d n0 s0 : Nat) : vX → Prop := vMP l yX3_readsRank cX3_readsRank 4 (some .boolean) d n0 s0
theorem w_X3_readsRank_24 {l : Launch} {d n0 s0 : Nat} (hd : 6 ≤ d) {d1 : Nat} (t_X3_readsRank : vMem → Nat → Int32 → Option (Int32 × vMem)) (a0 : Nat) (x1 : Int32) (hd1 : d1 + 1 ≤ d) (h_X3_readsRank : ∀ {σ : vMem} {a0 : Nat} {x1 : Int32} {r : Int32 × vMem}, t_X3_readsRank σ a0 x1 = some r → vOk l yX3_readsRank cX3_readsRank 4 (some .boolean) d1 [.ref a0, .int x1] σ (.inl (eI.1 r, eI.2 r))) : ∀ (n : Nat) (σ_2 : vMem) (v2 : Int32), V (P_X3_readsRank l d n0 s0) (vEmb eI) σ_2 24 [some (.ref a0), some (.int x1), some (.int v2), none] [] (f_X3_readsRank_24 t_X3_readsRank a0 x1 n σ_2 v2) := by
  have hC : vPx (P_X3_readsRank l d n0 s0) cX3_readsRank 4 "NobodyBeenAftModel" (some .boolean) d := vMP_cx
  intro n
  induction n with
  | zero =>
    intro σ_2 v2
    exact V_none
  | succ n ih =>
    intro σ_2 v2
    refine V_eq (f_X3_readsRank_24.eq_2 ..) ?_
    refine V_iload_n hC dX3_readsRank_24 rfl ?_
    refine V_if_eq (tgt := 113) hC dX3_readsRank_25 (by decide) ?_ ?_
    · refine V_iconst (v := 1) hC dX3_readsRank_113 rfl ?_
      exact V_zreturn rfl dX3_readsRank_114 rfl rfl
    · refine V_aload_n hC dX3_readsRank_28 rfl ?_
      refine V_iload_n hC dX3_readsRank_29 rfl ?_
      refine V_let (B := fun k => ∀ (y : Nat), V (P_X3_readsRank l d n0 s0) (vEmb eI) σ_2 50 [some (.ref a0), some (.int x1), none, none] [.ref y, .ref a0] (k y)) ?_ ?_
      · intro y
        refine V_cko (fun hm => V_callV_I (c := 3) (As := [.ref y]) (rest := []) (d' := 5) hC dX3_readsRank_50 1 (lw_V q1494 q1496 qs38 q87 q1497) (by decide +kernel) (List.mem_singleton.mp hm) (by decide) (by decide) rfl rfl rfl (Nat.le_of_ble_eq_true rfl) (Nat.le_trans (by decide) hd) (by decide) vMP_l (fun _ h => c_X3_takesOf (Nat.le_refl _) h) (fun r_1 σ_3 => ?_))
        refine V_istore_n (ls' := [some (.ref a0), some (.int x1), none, some (.int r_1)]) hC dX3_readsRank_53 (by decide) rfl rfl ?_
        refine V_iload_n hC dX3_readsRank_54 rfl ?_
        refine V_if_ge (tgt := 60) hC dX3_readsRank_55 (by decide) ?_ ?_
        · refine V_aload_n hC dX3_readsRank_60 rfl ?_
          refine V_iload_n hC dX3_readsRank_61 rfl ?_
          refine V_iconst (v := 1) hC dX3_readsRank_62 rfl ?_
          refine V_iadd hC dX3_readsRank_63 ?_
          refine V_cko (fun hm => V_callV_I (c := 3) (As := [.int (x1 + 1)]) (rest := []) (d' := d1) hC dX3_readsRank_64 1 (lw_V q1562 q1564 qs41 q87 q1565) (by decide +kernel) (List.mem_singleton.mp hm) (by decide) (by decide) rfl rfl rfl (Nat.le_of_ble_eq_true rfl) hd1 (by decide) vMP_l (fun _ h => h_X3_readsRank h) (fun r_2 σ_4 => ?_))
          refine V_if_ne (tgt := 72) hC dX3_readsRank_67 (by decide) ?_ ?_
          · refine V_aload_n hC dX3_readsRank_72 rfl ?_
            refine V_sipush (v := 2000) hC dX3_readsRank_73 rfl ?_
            refine V_iload_n hC dX3_readsRank_76 rfl ?_
            refine V_iadd hC dX3_readsRank_77 ?_
            refine V_iload_n hC dX3_readsRank_78 rfl ?_
            refine V_let (B := fun k_1 => ∀ (y_1 : Int32), V (P_X3_readsRank l d n0 s0) (vEmb eI) σ_4 96 [some (.ref a0), some (.int x1), none, none] [.int y_1, .int (2000 + r_1), .ref a0] (k_1 y_1)) ?_ ?_
            · intro y_1
              refine V_iadd hC dX3_readsRank_96 ?_
              refine V_cko (fun hm => V_callV_V (c := 3) (As := [.int ((2000 + r_1) + y_1)]) (rest := []) (d' := 0) hC dX3_readsRank_97 1 (lw_V q1570 q1572 qs43 q87 q1573) (by decide +kernel) (List.mem_singleton.mp hm) (by decide) (by decide) rfl rfl rfl (Nat.le_of_ble_eq_true rfl) (Nat.le_trans (by decide) hd) (by decide) vMP_l (fun _ h => c_X3_codes (Nat.le_refl _) h) (fun σ_5 => ?_))
              refine V_iload_n hC dX3_readsRank_100 rfl ?_
              refine V_let (B := fun k_2 => ∀ (y_2 : Int32), V (P_X3_readsRank l d n0 s0) (vEmb eI) σ_5 109 [some (.ref a0), some (.int x1), none, none] [.int y_2] (k_2 y_2)) ?_ ?_
              · intro y_2
                refine V_istore_n (ls' := [some (.ref a0), some (.int x1), some (.int y_2), none]) hC dX3_readsRank_109 (by decide) rfl rfl ?_
                refine V_goto (tgt := 24) hC dX3_readsRank_110 (by decide) ?_
                exact ih σ_5 y_2
              · intro k_2 hk_2
                refine V_if_le (tgt := 108) hC dX3_readsRank_101 (by decide) ?_ ?_
                · refine V_iconst (v := 0) hC dX3_readsRank_108 rfl ?_
                  exact hk_2 0
                · refine V_iconst (v := 1) hC dX3_readsRank_104 rfl ?_
                  refine V_goto (tgt := 109) hC dX3_readsRank_105 (by decide) ?_
                  exact hk_2 1
            · intro k_1 hk_1
              refine V_if_ne (tgt := 86) hC dX3_readsRank_79 (by decide) ?_ ?_
              · refine V_iload_n hC dX3_readsRank_86 rfl ?_
                refine V_iconst (v := 1) hC dX3_readsRank_87 rfl ?_
                refine V_icmp_ne (tgt := 95) hC dX3_readsRank_88 (by decide) ?_ ?_
                · refine V_iconst (v := 5) hC dX3_readsRank_95 rfl ?_
                  refine V_clr [3] (ls' := [some (.ref a0), some (.int x1), none, none]) rfl ?_
                  exact hk_1 5
                · refine V_iconst (v := 3) hC dX3_readsRank_91 rfl ?_
                  refine V_goto (tgt := 96) hC dX3_readsRank_92 (by decide) ?_
                  refine V_clr [3] (ls' := [some (.ref a0), some (.int x1), none, none]) rfl ?_
                  exact hk_1 3
              · refine V_iconst (v := 0) hC dX3_readsRank_82 rfl ?_
                refine V_goto (tgt := 96) hC dX3_readsRank_83 (by decide) ?_
                refine V_clr [3] (ls' := [some (.ref a0), some (.int x1), none, none]) rfl ?_
                exact hk_1 0
          · refine V_iconst (v := 0) hC dX3_readsRank_70 rfl ?_
            exact V_zreturn rfl dX3_readsRank_71 rfl rfl
        · refine V_iconst (v := 1) hC dX3_readsRank_58 rfl ?_
          exact V_zreturn rfl dX3_readsRank_59 rfl rfl
      · intro k hk
        refine V_if_ne (tgt := 38) hC dX3_readsRank_30 (by decide) ?_ ?_
        · refine V_iload_n hC dX3_readsRank_38 rfl ?_
          refine V_iconst (v := 1) hC dX3_readsRank_39 rfl ?_
          refine V_icmp_ne (tgt := 48) hC dX3_readsRank_40 (by decide) ?_ ?_
          · refine V_ldcS 4 (by decide) hC dX3_readsRank_48 rfl ?_
            refine V_clr [2] (ls' := [some (.ref a0), some (.int x1), none, none]) rfl ?_
            exact hk (SB + 4)
          · refine V_ldcS 3 (by decide) hC dX3_readsRank_43 rfl ?_
            refine V_goto (tgt := 50) hC dX3_readsRank_45 (by decide) ?_
            refine V_clr [2] (ls' := [some (.ref a0), some (.int x1), none, none]) rfl ?_
            exact hk (SB + 3)
        · refine V_ldcS 2 (by decide) hC dX3_readsRank_33 rfl ?_
          refine V_goto (tgt := 50) hC dX3_readsRank_35 (by decide) ?_
          refine V_clr [2] (ls' := [some (.ref a0), some (.int x1), none, none]) rfl ?_
          exact hk (SB + 2)
theorem w_X3_readsRank {l : Launch} {d n0 s0 : Nat} (hd : 6 ≤ d) (t_X3_readsThing : vMem → Nat → Option (Int32 × vMem)) (t_X3_readsRank : vMem → Nat → Int32 → Option (Int32 × vMem)) {d1 : Nat} (hd1 : d1 + 1 ≤ d) (h_X3_readsThing : ∀ {σ : vMem} {a0 : Nat} {r : Int32 × vMem}, t_X3_readsThing σ a0 = some r → vOk l yX3_readsThing cX3_readsThing 2 (some .boolean) d1 [.ref a0] σ (.inl (eI.1 r, eI.2 r))) (h_X3_readsRank : ∀ {σ : vMem} {a0 : Nat} {x1 : Int32} {r : Int32 × vMem}, t_X3_readsRank σ a0 x1 = some r → vOk l yX3_readsRank cX3_readsRank 4 (some .boolean) d1 [.ref a0, .int x1] σ (.inl (eI.1 r, eI.2 r))) (σ : vMem) (a0 : Nat) (x1 : Int32) : V (P_X3_readsRank l d n0 s0) (vEmb eI) σ 0 [some (.ref a0), some (.int x1), none, none] [] (f_X3_readsRank_b t_X3_readsThing t_X3_readsRank σ a0 x1) := by
  have hC : vPx (P_X3_readsRank l d n0 s0) cX3_readsRank 4 "NobodyBeenAftModel" (some .boolean) d := vMP_cx
  refine V_eq (f_X3_readsRank_b.eq_1 ..) ?_
  refine V_iload_n hC dX3_readsRank_0 rfl ?_
  refine V_iconst (v := 3) hC dX3_readsRank_1 rfl ?_
  refine V_icmp_ne (tgt := 10) hC dX3_readsRank_2 (by decide) ?_ ?_
  · refine V_aload_n hC dX3_readsRank_10 rfl ?_
    refine V_iload_n hC dX3_readsRank_11 rfl ?_
    refine V_iconst (v := 1) hC dX3_readsRank_12 rfl ?_
    refine V_iadd hC dX3_readsRank_13 ?_
    refine V_cko (fun hm => V_callV_I (c := 3) (As := [.int (x1 + 1)]) (rest := []) (d' := d1) hC dX3_readsRank_14 1 (lw_V q1562 q1564 qs41 q87 q1565) (by decide +kernel) (List.mem_singleton.mp hm) (by decide) (by decide) rfl rfl rfl (Nat.le_of_ble_eq_true rfl) hd1 (by decide) vMP_l (fun _ h => h_X3_readsRank h) (fun r σ_1 => ?_))
    refine V_if_ne (tgt := 22) hC dX3_readsRank_17 (by decide) ?_ ?_
    · refine V_iconst (v := 1) hC dX3_readsRank_22 rfl ?_
      refine V_istore_n (ls' := [some (.ref a0), some (.int x1), some (.int 1), none]) hC dX3_readsRank_23 (by decide) rfl rfl ?_
      exact (w_X3_readsRank_24 hd t_X3_readsRank a0 x1 hd1 h_X3_readsRank) FU σ_1 1
    · refine V_iconst (v := 0) hC dX3_readsRank_20 rfl ?_
      exact V_zreturn rfl dX3_readsRank_21 rfl rfl
  · refine V_aload_n hC dX3_readsRank_5 rfl ?_
    refine V_cko (fun hm => V_callV_I (c := 3) (As := []) (rest := []) (d' := d1) hC dX3_readsRank_6 0 (lw_V q1566 q1568 qs42 q87 q1569) (by decide +kernel) (List.mem_singleton.mp hm) (by decide) (by decide) rfl rfl rfl (Nat.le_of_ble_eq_true rfl) hd1 (by decide) vMP_l (fun _ h => h_X3_readsThing h) (fun r_3 σ_6 => ?_))
    exact V_ck (fun h9 => V_zreturn h9 dX3_readsRank_9 rfl rfl)
theorem c_X3_readsRank_b {l : Launch} {d : Nat} (hd : 6 ≤ d) (t_X3_readsThing : vMem → Nat → Option (Int32 × vMem)) (t_X3_readsRank : vMem → Nat → Int32 → Option (Int32 × vMem)) {d1 : Nat} (hd1 : d1 + 1 ≤ d) (h_X3_readsThing : ∀ {σ : vMem} {a0 : Nat} {r : Int32 × vMem}, t_X3_readsThing σ a0 = some r → vOk l yX3_readsThing cX3_readsThing 2 (some .boolean) d1 [.ref a0] σ (.inl (eI.1 r, eI.2 r))) (h_X3_readsRank : ∀ {σ : vMem} {a0 : Nat} {x1 : Int32} {r : Int32 × vMem}, t_X3_readsRank σ a0 x1 = some r → vOk l yX3_readsRank cX3_readsRank 4 (some .boolean) d1 [.ref a0, .int x1] σ (.inl (eI.1 r, eI.2 r))) {σ : vMem} {a0 : Nat} {x1 : Int32} {r : Int32 × vMem} (h : f_X3_readsRank_b t_X3_readsThing t_X3_readsRank σ a0 x1 = some r) : vOk l yX3_readsRank cX3_readsRank 4 (some .boolean) d [.ref a0, .int x1] σ (.inl ((eI).1 r, (eI).2 r)) := V_method (em := eI) [some (.ref a0), some (.int x1), none, none] (by decide +kernel) rfl (Nat.le_of_ble_eq_true rfl) (w_X3_readsRank hd t_X3_readsThing t_X3_readsRank hd1 h_X3_readsThing h_X3_readsRank σ a0 x1) h
def f_X3_reads : Nat → vMem → ((Nat) ⊕ (Nat × Int32)) → Option (Int32 × vMem)
  | 0, _, _ => none
  | n + 1, σ, (.inl (a0)) => f_X3_readsThing_b (fun σ a0 => f_X3_reads n σ (.inl (a0))) (fun σ a0 x1 => f_X3_reads n σ (.inr (a0, x1))) σ a0
  | n + 1, σ, (.inr (a0, x1)) => f_X3_readsRank_b (fun σ a0 => f_X3_reads n σ (.inl (a0))) (fun σ a0 x1 => f_X3_reads n σ (.inr (a0, x1))) σ a0 x1
def f_X3_readsThing (n : Nat) (σ : vMem) (a0 : Nat) : Option (Int32 × vMem) := f_X3_reads n σ (.inl (a0))
def f_X3_readsRank (n : Nat) (σ : vMem) (a0 : Nat) (x1 : Int32) : Option (Int32 × vMem) := f_X3_reads n σ (.inr (a0, x1))
theorem cg_X3_reads {l : Launch} : ∀ (n : Nat) {d : Nat}, 6 + n ≤ d → (∀ {σ : vMem} {a0 : Nat} {r : Int32 × vMem}, f_X3_readsThing n σ a0 = some r → vOk l yX3_readsThing cX3_readsThing 2 (some .boolean) d [.ref a0] σ (.inl (eI.1 r, eI.2 r))) ∧ (∀ {σ : vMem} {a0 : Nat} {x1 : Int32} {r : Int32 × vMem}, f_X3_readsRank n σ a0 x1 = some r → vOk l yX3_readsRank cX3_readsRank 4 (some .boolean) d [.ref a0, .int x1] σ (.inl (eI.1 r, eI.2 r))) := by
  intro n
  induction n with
  | zero => intro d hd; exact ⟨(fun h => by cases h), (fun h => by cases h)⟩
  | succ n ih =>
    intro d hd
    have ih9 := ih (Nat.le_refl (6 + n))
    exact ⟨fun h => c_X3_readsThing_b (d1 := 6 + n) (by omega) _ _ (by omega) (fun h => ih9.1 h) (fun h => ih9.2 h) h, fun h => c_X3_readsRank_b (d1 := 6 + n) (by omega) _ _ (by omega) (fun h => ih9.1 h) (fun h => ih9.2 h) h⟩
theorem c_X3_readsThing {l : Launch} {n d : Nat} (hd : 6 + n ≤ d) {σ : vMem} {a0 : Nat} {r : Int32 × vMem} (h : f_X3_readsThing n σ a0 = some r) : vOk l yX3_readsThing cX3_readsThing 2 (some .boolean) d [.ref a0] σ (.inl (eI.1 r, eI.2 r)) := (cg_X3_reads n hd).1 h
theorem c_X3_readsRank {l : Launch} {n d : Nat} (hd : 6 + n ≤ d) {σ : vMem} {a0 : Nat} {x1 : Int32} {r : Int32 × vMem} (h : f_X3_readsRank n σ a0 x1 = some r) : vOk l yX3_readsRank cX3_readsRank 4 (some .boolean) d [.ref a0, .int x1] σ (.inl (eI.1 r, eI.2 r)) := (cg_X3_reads n hd).2 h
/-! NobodyBeenAftModel.rule()I -/
def f_X3_rule_61 (a0 : Nat) : Nat → vMem → Int32 → Option (Int32 × vMem)
  | 0, _, _ => none
  | n + 1, σ_6, v4 => cko σ_6 a0 [3] (if (gi σ_6 a0 26) ≤ v4 then (some (0, σ_6)) else cko σ_6 a0 [3] (dr (gr σ_6 a0 23) (fun b => cko σ_6 a0 [3] (dr (gr σ_6 a0 24) (fun b_1 => cka σ_6 b_1 105 v4 (cka σ_6 b 105 v4 (vl (si σ_6 b (Int32.toNatClampNeg v4) (gi σ_6 b_1 (Int32.toNatClampNeg v4))) (fun σ_7 => vl (v4 + 1) (fun v4_1 => f_X3_rule_61 a0 n σ_7 v4_1)))))))))
def f_X3_rule (σ : vMem) (a0 : Nat) : Option (Int32 × vMem) := cko σ a0 [3] (vl (si σ a0 0 0) (fun σ_1 => cko σ_1 a0 [3] (bd (f_X3_begins σ_1 a0 40) (fun r σ_2 => cko σ_2 a0 [3] (vl (si σ_2 a0 26 0) (fun σ_3 => vl (fun (σ_4 : vMem) (y : Int32) => cko σ_4 a0 [3] (bp (f_X3_faultOf σ_4 a0 r 40 y) (fun r_1 => if 0 ≤ r_1 then (cko σ_4 a0 [3] (cko σ_4 a0 [3] (vl (si σ_4 a0 25 (gi σ_4 a0 26)) (fun σ_5 => f_X3_rule_61 a0 FU σ_5 0)))) else some (r_1, σ_4)))) (fun k => vl (fun (σ_8 : vMem) => k σ_8 1) (fun k_1 => if r = 0 then (k_1 σ_3) else cko σ_3 a0 [3] (bd (f_X3_readsRank 600 σ_3 a0 0) (fun r_2 σ_9 => if r_2 = 0 then (k σ_9 0) else k_1 σ_9))))))))))
abbrev P_X3_rule (l : Launch) (d n0 s0 : Nat) : vX → Prop := vMP l yX3_rule cX3_rule 5 (some .int) d n0 s0
theorem w_X3_rule_61 {l : Launch} {d n0 s0 : Nat} (hd : 607 ≤ d) (a0 : Nat)  : ∀ (n : Nat) (σ_6 : vMem) (v4 : Int32), V (P_X3_rule l d n0 s0) (vEmb eI) σ_6 61 [some (.ref a0), none, none, none, some (.int v4)] [] (f_X3_rule_61 a0 n σ_6 v4) := by
  have hC : vPx (P_X3_rule l d n0 s0) cX3_rule 5 "NobodyBeenAftModel" (some .int) d := vMP_cx
  intro n
  induction n with
  | zero =>
    intro σ_6 v4
    exact V_none
  | succ n ih =>
    intro σ_6 v4
    refine V_eq (f_X3_rule_61.eq_2 ..) ?_
    refine V_iload hC dX3_rule_61 rfl ?_
    refine V_aload_n hC dX3_rule_63 rfl ?_
    refine g_X3_216 hC dX3_rule_64 ?_
    refine V_icmp_ge (tgt := 90) hC dX3_rule_67 (by decide) ?_ ?_
    · refine V_iconst (v := 0) hC dX3_rule_90 rfl ?_
      exact V_ireturn dX3_rule_91 rfl rfl
    · refine V_aload_n hC dX3_rule_70 rfl ?_
      refine g_X3_46 hC dX3_rule_71 (fun b => ?_)
      refine V_iload hC dX3_rule_74 rfl ?_
      refine V_aload_n hC dX3_rule_76 rfl ?_
      refine g_X3_49 hC dX3_rule_77 (fun b_1 => ?_)
      refine V_iload hC dX3_rule_80 rfl ?_
      refine V_iald hC dX3_rule_82 ?_
      refine V_iast hC dX3_rule_83 (fun σ_7 => ?_)
      refine V_iincL (v := v4 + 1) (ls' := fun v4_1 => [some (.ref a0), none, none, none, some (.int v4_1)]) hC dX3_rule_84 rfl (by decide) rfl rfl (fun _ => rfl) (fun v4_1 => ?_)
      refine V_goto (tgt := 61) hC dX3_rule_87 (by decide) ?_
      exact ih σ_7 v4_1
theorem w_X3_rule {l : Launch} {d n0 s0 : Nat} (hd : 607 ≤ d) (σ : vMem) (a0 : Nat) : V (P_X3_rule l d n0 s0) (vEmb eI) σ 0 [some (.ref a0), none, none, none, none] [] (f_X3_rule σ a0) := by
  have hC : vPx (P_X3_rule l d n0 s0) cX3_rule 5 "NobodyBeenAftModel" (some .int) d := vMP_cx
  refine V_eq (f_X3_rule.eq_1 ..) ?_
  refine V_aload_n hC dX3_rule_0 rfl ?_
  refine V_iconst (v := 0) hC dX3_rule_1 rfl ?_
  refine p_X3_103 hC dX3_rule_2 (fun σ_1 => ?_)
  refine V_aload_n hC dX3_rule_5 rfl ?_
  refine V_bipush (v := 40) hC dX3_rule_6 rfl ?_
  refine V_cko (fun hm => V_callV_I (c := 3) (As := [.int 40]) (rest := []) (d' := 0) hC dX3_rule_8 1 (lw_V q1455 q1457 qs31 q87 q1458) (by decide +kernel) (List.mem_singleton.mp hm) (by decide) (by decide) rfl rfl rfl (Nat.le_of_ble_eq_true rfl) (Nat.le_trans (by decide) hd) (by decide) vMP_l (fun _ h => c_X3_begins (Nat.le_refl _) h) (fun r σ_2 => ?_))
  refine V_istore_n (ls' := [some (.ref a0), some (.int r), none, none, none]) hC dX3_rule_11 (by decide) rfl rfl ?_
  refine V_aload_n hC dX3_rule_12 rfl ?_
  refine V_iconst (v := 0) hC dX3_rule_13 rfl ?_
  refine p_X3_216 hC dX3_rule_14 (fun σ_3 => ?_)
  refine V_iload_n hC dX3_rule_17 rfl ?_
  refine V_let (B := fun k => ∀ (σ_4 : vMem), ∀ (y : Int32), V (P_X3_rule l d n0 s0) (vEmb eI) σ_4 34 [some (.ref a0), some (.int r), none, none, none] [.int y] (k σ_4 y)) ?_ ?_
  · intro σ_4 y
    refine V_istore_n (ls' := [some (.ref a0), some (.int r), some (.int y), none, none]) hC dX3_rule_34 (by decide) rfl rfl ?_
    refine V_aload_n hC dX3_rule_35 rfl ?_
    refine V_iload_n hC dX3_rule_36 rfl ?_
    refine V_bipush (v := 40) hC dX3_rule_37 rfl ?_
    refine V_iload_n hC dX3_rule_39 rfl ?_
    refine V_cko (fun hm => V_callV_PI (c := 3) (As := [.int r, .int 40, .int y]) (rest := []) (d' := 0) hC dX3_rule_40 3 (lw_V q1481 q1483 qs36 q87 q1484) (by decide +kernel) (List.mem_singleton.mp hm) (by decide) (by decide) rfl rfl rfl (Nat.le_of_ble_eq_true rfl) (Nat.le_trans (by decide) hd) (by decide) vMP_l (fun _ h => c_X3_faultOf (Nat.le_refl _) h) (fun r_1 => ?_))
    refine V_istore_n (ls' := [some (.ref a0), some (.int r), some (.int y), some (.int r_1), none]) hC dX3_rule_43 (by decide) rfl rfl ?_
    refine V_iload_n hC dX3_rule_44 rfl ?_
    refine V_if_ge (tgt := 50) hC dX3_rule_45 (by decide) ?_ ?_
    · refine V_aload_n hC dX3_rule_50 rfl ?_
      refine V_aload_n hC dX3_rule_51 rfl ?_
      refine g_X3_216 hC dX3_rule_52 ?_
      refine p_X3_237 hC dX3_rule_55 (fun σ_5 => ?_)
      refine V_iconst (v := 0) hC dX3_rule_58 rfl ?_
      refine V_istore (ls' := [some (.ref a0), some (.int r), some (.int y), some (.int r_1), some (.int 0)]) hC dX3_rule_59 (by decide) rfl rfl ?_
      refine V_clr [1, 2, 3] (ls' := [some (.ref a0), none, none, none, some (.int 0)]) rfl ?_
      exact (w_X3_rule_61 hd a0) FU σ_5 0
    · refine V_iload_n hC dX3_rule_48 rfl ?_
      exact V_ireturn dX3_rule_49 rfl rfl
  · intro k hk
    refine V_let (B := fun k_1 => ∀ (σ_8 : vMem), V (P_X3_rule l d n0 s0) (vEmb eI) σ_8 29 [some (.ref a0), some (.int r), none, none, none] [] (k_1 σ_8)) ?_ ?_
    · intro σ_8
      refine V_iconst (v := 1) hC dX3_rule_29 rfl ?_
      refine V_goto (tgt := 34) hC dX3_rule_30 (by decide) ?_
      exact hk σ_8 1
    · intro k_1 hk_1
      refine V_if_eq (tgt := 29) hC dX3_rule_18 (by decide) ?_ ?_
      · exact hk_1 σ_3
      · refine V_aload_n hC dX3_rule_21 rfl ?_
        refine V_iconst (v := 0) hC dX3_rule_22 rfl ?_
        refine V_cko (fun hm => V_callV_I (c := 3) (As := [.int 0]) (rest := []) (d' := 606) hC dX3_rule_23 1 (lw_V q1562 q1564 qs41 q87 q1565) (by decide +kernel) (List.mem_singleton.mp hm) (by decide) (by decide) rfl rfl rfl (Nat.le_of_ble_eq_true rfl) (Nat.le_trans (by decide) hd) (by decide) vMP_l (fun _ h => c_X3_readsRank (n := 600) (Nat.le_of_ble_eq_true rfl) h) (fun r_2 σ_9 => ?_))
        refine V_if_eq (tgt := 33) hC dX3_rule_26 (by decide) ?_ ?_
        · refine V_iconst (v := 0) hC dX3_rule_33 rfl ?_
          exact hk σ_9 0
        · exact hk_1 σ_9
theorem c_X3_rule {l : Launch} {d : Nat} (hd : 607 ≤ d) {σ : vMem} {a0 : Nat} {r : Int32 × vMem} (h : f_X3_rule σ a0 = some r) : vOk l yX3_rule cX3_rule 5 (some .int) d [.ref a0] σ (.inl ((eI).1 r, (eI).2 r)) := V_method (em := eI) [some (.ref a0), none, none, none, none] (by decide +kernel) rfl (Nat.le_of_ble_eq_true rfl) (w_X3_rule hd σ a0) h
/-! NobodyBeenAftModel.refuse()I -/
def f_X3_refuse (σ : vMem) (a0 : Nat) : Option (Int32 × vMem) := cko σ a0 [3] (vl (si σ a0 0 1) (fun σ_1 => some (0, σ_1)))
abbrev P_X3_refuse (l : Launch) (d n0 s0 : Nat) : vX → Prop := vMP l yX3_refuse cX3_refuse 1 (some .int) d n0 s0
theorem w_X3_refuse {l : Launch} {d n0 s0 : Nat} (hd : 0 ≤ d) (σ : vMem) (a0 : Nat) : V (P_X3_refuse l d n0 s0) (vEmb eI) σ 0 [some (.ref a0)] [] (f_X3_refuse σ a0) := by
  have hC : vPx (P_X3_refuse l d n0 s0) cX3_refuse 1 "NobodyBeenAftModel" (some .int) d := vMP_cx
  refine V_eq (f_X3_refuse.eq_1 ..) ?_
  refine V_aload_n hC dX3_refuse_0 rfl ?_
  refine V_iconst (v := 1) hC dX3_refuse_1 rfl ?_
  refine p_X3_103 hC dX3_refuse_2 (fun σ_1 => ?_)
  refine V_iconst (v := 0) hC dX3_refuse_5 rfl ?_
  exact V_ireturn dX3_refuse_6 rfl rfl
theorem c_X3_refuse {l : Launch} {d : Nat} (hd : 0 ≤ d) {σ : vMem} {a0 : Nat} {r : Int32 × vMem} (h : f_X3_refuse σ a0 = some r) : vOk l yX3_refuse cX3_refuse 1 (some .int) d [.ref a0] σ (.inl ((eI).1 r, (eI).2 r)) := V_method (em := eI) [some (.ref a0)] (by decide +kernel) rfl (Nat.le_of_ble_eq_true rfl) (w_X3_refuse hd σ a0) h
/-! NobodyBeenAftModel.post(II)I -/
def f_X3_post (σ : vMem) (a0 : Nat) (x1 : Int32) (x2 : Int32) : Option (Int32 × vMem) := cko σ a0 [3] (vl (si σ a0 0 0) (fun σ_1 => cko σ_1 a0 [3] (bp (f_X3_in σ_1 (Int32.toInt64 x1) 0 (Int32.toInt64 ((gi σ_1 a0 4) - 1))) (fun r => vl (cko σ_1 a0 [3] (bd (f_X3_refuse σ_1 a0) (fun r_1 σ_2 => some (r_1, σ_2)))) (fun k => if r = 0 then k else bp (f_X3_in σ_1 (Int32.toInt64 x2) 0 1) (fun r_2 => if ¬ r_2 = 0 then (if ¬ x2 = 0 then (cko σ_1 a0 [3] (dr (gr σ_1 a0 10) (fun b => cka σ_1 b 101 x1 (bp (f_X3_flag σ_1 (gi σ_1 b (Int32.toNatClampNeg x1))) (fun r_3 => some (r_3, σ_1)))))) else cko σ_1 a0 [3] (dr (gr σ_1 a0 9) (fun b_1 => cka σ_1 b_1 105 x1 (some ((gi σ_1 b_1 (Int32.toNatClampNeg x1)), σ_1))))) else k))))))
abbrev P_X3_post (l : Launch) (d n0 s0 : Nat) : vX → Prop := vMP l yX3_post cX3_post 3 (some .int) d n0 s0
theorem w_X3_post {l : Launch} {d n0 s0 : Nat} (hd : 1 ≤ d) (σ : vMem) (a0 : Nat) (x1 : Int32) (x2 : Int32) : V (P_X3_post l d n0 s0) (vEmb eI) σ 0 [some (.ref a0), some (.int x1), some (.int x2)] [] (f_X3_post σ a0 x1 x2) := by
  have hC : vPx (P_X3_post l d n0 s0) cX3_post 3 "NobodyBeenAftModel" (some .int) d := vMP_cx
  refine V_eq (f_X3_post.eq_1 ..) ?_
  refine V_aload_n hC dX3_post_0 rfl ?_
  refine V_iconst (v := 0) hC dX3_post_1 rfl ?_
  refine p_X3_103 hC dX3_post_2 (fun σ_1 => ?_)
  refine V_iload_n hC dX3_post_5 rfl ?_
  refine V_i2l hC dX3_post_6 ?_
  refine V_lconst (v := 0) hC dX3_post_7 rfl ?_
  refine V_aload_n hC dX3_post_8 rfl ?_
  refine g_X3_190 hC dX3_post_9 ?_
  refine V_iconst (v := 1) hC dX3_post_12 rfl ?_
  refine V_isub hC dX3_post_13 ?_
  refine V_i2l hC dX3_post_14 ?_
  refine V_callS_PI (As := [.long (Int32.toInt64 x1), .long 0, .long (Int32.toInt64 ((gi σ_1 a0 4) - 1))]) (rest := []) (d' := 0) hC dX3_post_15 3 (lw_S q1448 q1449 q87 q1450) (by decide +kernel) rfl rfl (Nat.le_of_ble_eq_true rfl) (Nat.le_trans (by decide) hd) (by decide) vMP_l (fun _ h => c_X3_in (Nat.le_refl _) h) (fun r => ?_)
  refine V_let (B := fun k => V (P_X3_post l d n0 s0) (vEmb eI) σ_1 31 [some (.ref a0), none, none] [] (k)) ?_ ?_
  · skip
    refine V_aload_n hC dX3_post_31 rfl ?_
    refine V_cko (fun hm => V_callV_I (c := 3) (As := []) (rest := []) (d' := 0) hC dX3_post_32 0 (lw_V q1582 q1584 qs44 q87 q1585) (by decide +kernel) (List.mem_singleton.mp hm) (by decide) (by decide) rfl rfl rfl (Nat.le_of_ble_eq_true rfl) (Nat.le_trans (by decide) hd) (by decide) vMP_l (fun _ h => c_X3_refuse (Nat.le_refl _) h) (fun r_1 σ_2 => ?_))
    exact V_ireturn dX3_post_35 rfl rfl
  · intro k hk
    refine V_if_eq (tgt := 31) hC dX3_post_18 (by decide) ?_ ?_
    · refine V_clr [1, 2] (ls' := [some (.ref a0), none, none]) rfl ?_
      exact hk
    · refine V_iload_n hC dX3_post_21 rfl ?_
      refine V_i2l hC dX3_post_22 ?_
      refine V_lconst (v := 0) hC dX3_post_23 rfl ?_
      refine V_lconst (v := 1) hC dX3_post_24 rfl ?_
      refine V_callS_PI (As := [.long (Int32.toInt64 x2), .long 0, .long 1]) (rest := []) (d' := 0) hC dX3_post_25 3 (lw_S q1448 q1449 q87 q1450) (by decide +kernel) rfl rfl (Nat.le_of_ble_eq_true rfl) (Nat.le_trans (by decide) hd) (by decide) vMP_l (fun _ h => c_X3_in (Nat.le_refl _) h) (fun r_2 => ?_)
      refine V_if_ne (tgt := 36) hC dX3_post_28 (by decide) ?_ ?_
      · refine V_iload_n hC dX3_post_36 rfl ?_
        refine V_if_ne (tgt := 49) hC dX3_post_37 (by decide) ?_ ?_
        · refine V_aload_n hC dX3_post_49 rfl ?_
          refine g_X3_21 hC dX3_post_50 (fun b => ?_)
          refine V_iload_n hC dX3_post_53 rfl ?_
          refine V_zald hC dX3_post_54 ?_
          refine V_callS_PI (As := [.int (gi σ_1 b (Int32.toNatClampNeg x1))]) (rest := []) (d' := 0) hC dX3_post_55 1 (lw_S q1478 q1479 q87 q1480) (by decide +kernel) rfl rfl (Nat.le_of_ble_eq_true rfl) (Nat.le_trans (by decide) hd) (by decide) vMP_l (fun _ h => c_X3_flag (Nat.le_refl _) h) (fun r_3 => ?_)
          exact V_ireturn dX3_post_58 rfl rfl
        · refine V_aload_n hC dX3_post_40 rfl ?_
          refine g_X3_17 hC dX3_post_41 (fun b_1 => ?_)
          refine V_iload_n hC dX3_post_44 rfl ?_
          refine V_iald hC dX3_post_45 ?_
          refine V_goto (tgt := 58) hC dX3_post_46 (by decide) ?_
          exact V_ireturn dX3_post_58 rfl rfl
      · refine V_clr [1, 2] (ls' := [some (.ref a0), none, none]) rfl ?_
        exact hk
theorem c_X3_post {l : Launch} {d : Nat} (hd : 1 ≤ d) {σ : vMem} {a0 : Nat} {x1 : Int32} {x2 : Int32} {r : Int32 × vMem} (h : f_X3_post σ a0 x1 x2 = some r) : vOk l yX3_post cX3_post 3 (some .int) d [.ref a0, .int x1, .int x2] σ (.inl ((eI).1 r, (eI).2 r)) := V_method (em := eI) [some (.ref a0), some (.int x1), some (.int x2)] (by decide +kernel) rfl (Nat.le_of_ble_eq_true rfl) (w_X3_post hd σ a0 x1 x2) h
/-! NobodyBeenAftModel.rock(II)I -/
def f_X3_rock (σ : vMem) (a0 : Nat) (x1 : Int32) (x2 : Int32) : Option (Int32 × vMem) := cko σ a0 [3] (vl (si σ a0 0 0) (fun σ_1 => cko σ_1 a0 [3] (bp (f_X3_in σ_1 (Int32.toInt64 x1) 0 (Int32.toInt64 ((gi σ_1 a0 6) - 1))) (fun r => vl (cko σ_1 a0 [3] (bd (f_X3_refuse σ_1 a0) (fun r_1 σ_2 => some (r_1, σ_2)))) (fun k => if r = 0 then k else bp (f_X3_in σ_1 (Int32.toInt64 x2) 0 1) (fun r_2 => if ¬ r_2 = 0 then (if ¬ x2 = 0 then (cko σ_1 a0 [3] (dr (gr σ_1 a0 12) (fun b => cka σ_1 b 105 x1 (some ((gi σ_1 b (Int32.toNatClampNeg x1)), σ_1))))) else cko σ_1 a0 [3] (dr (gr σ_1 a0 11) (fun b_1 => cka σ_1 b_1 105 x1 (some ((gi σ_1 b_1 (Int32.toNatClampNeg x1)), σ_1))))) else k))))))
abbrev P_X3_rock (l : Launch) (d n0 s0 : Nat) : vX → Prop := vMP l yX3_rock cX3_rock 3 (some .int) d n0 s0
theorem w_X3_rock {l : Launch} {d n0 s0 : Nat} (hd : 1 ≤ d) (σ : vMem) (a0 : Nat) (x1 : Int32) (x2 : Int32) : V (P_X3_rock l d n0 s0) (vEmb eI) σ 0 [some (.ref a0), some (.int x1), some (.int x2)] [] (f_X3_rock σ a0 x1 x2) := by
  have hC : vPx (P_X3_rock l d n0 s0) cX3_rock 3 "NobodyBeenAftModel" (some .int) d := vMP_cx
  refine V_eq (f_X3_rock.eq_1 ..) ?_
  refine V_aload_n hC dX3_rock_0 rfl ?_
  refine V_iconst (v := 0) hC dX3_rock_1 rfl ?_
  refine p_X3_103 hC dX3_rock_2 (fun σ_1 => ?_)
  refine V_iload_n hC dX3_rock_5 rfl ?_
  refine V_i2l hC dX3_rock_6 ?_
  refine V_lconst (v := 0) hC dX3_rock_7 rfl ?_
  refine V_aload_n hC dX3_rock_8 rfl ?_
  refine g_X3_196 hC dX3_rock_9 ?_
  refine V_iconst (v := 1) hC dX3_rock_12 rfl ?_
  refine V_isub hC dX3_rock_13 ?_
  refine V_i2l hC dX3_rock_14 ?_
  refine V_callS_PI (As := [.long (Int32.toInt64 x1), .long 0, .long (Int32.toInt64 ((gi σ_1 a0 6) - 1))]) (rest := []) (d' := 0) hC dX3_rock_15 3 (lw_S q1448 q1449 q87 q1450) (by decide +kernel) rfl rfl (Nat.le_of_ble_eq_true rfl) (Nat.le_trans (by decide) hd) (by decide) vMP_l (fun _ h => c_X3_in (Nat.le_refl _) h) (fun r => ?_)
  refine V_let (B := fun k => V (P_X3_rock l d n0 s0) (vEmb eI) σ_1 31 [some (.ref a0), none, none] [] (k)) ?_ ?_
  · skip
    refine V_aload_n hC dX3_rock_31 rfl ?_
    refine V_cko (fun hm => V_callV_I (c := 3) (As := []) (rest := []) (d' := 0) hC dX3_rock_32 0 (lw_V q1582 q1584 qs44 q87 q1585) (by decide +kernel) (List.mem_singleton.mp hm) (by decide) (by decide) rfl rfl rfl (Nat.le_of_ble_eq_true rfl) (Nat.le_trans (by decide) hd) (by decide) vMP_l (fun _ h => c_X3_refuse (Nat.le_refl _) h) (fun r_1 σ_2 => ?_))
    exact V_ireturn dX3_rock_35 rfl rfl
  · intro k hk
    refine V_if_eq (tgt := 31) hC dX3_rock_18 (by decide) ?_ ?_
    · refine V_clr [1, 2] (ls' := [some (.ref a0), none, none]) rfl ?_
      exact hk
    · refine V_iload_n hC dX3_rock_21 rfl ?_
      refine V_i2l hC dX3_rock_22 ?_
      refine V_lconst (v := 0) hC dX3_rock_23 rfl ?_
      refine V_lconst (v := 1) hC dX3_rock_24 rfl ?_
      refine V_callS_PI (As := [.long (Int32.toInt64 x2), .long 0, .long 1]) (rest := []) (d' := 0) hC dX3_rock_25 3 (lw_S q1448 q1449 q87 q1450) (by decide +kernel) rfl rfl (Nat.le_of_ble_eq_true rfl) (Nat.le_trans (by decide) hd) (by decide) vMP_l (fun _ h => c_X3_in (Nat.le_refl _) h) (fun r_2 => ?_)
      refine V_if_ne (tgt := 36) hC dX3_rock_28 (by decide) ?_ ?_
      · refine V_iload_n hC dX3_rock_36 rfl ?_
        refine V_if_ne (tgt := 49) hC dX3_rock_37 (by decide) ?_ ?_
        · refine V_aload_n hC dX3_rock_49 rfl ?_
          refine g_X3_28 hC dX3_rock_50 (fun b => ?_)
          refine V_iload_n hC dX3_rock_53 rfl ?_
          refine V_iald hC dX3_rock_54 ?_
          exact V_ireturn dX3_rock_55 rfl rfl
        · refine V_aload_n hC dX3_rock_40 rfl ?_
          refine g_X3_25 hC dX3_rock_41 (fun b_1 => ?_)
          refine V_iload_n hC dX3_rock_44 rfl ?_
          refine V_iald hC dX3_rock_45 ?_
          refine V_goto (tgt := 55) hC dX3_rock_46 (by decide) ?_
          exact V_ireturn dX3_rock_55 rfl rfl
      · refine V_clr [1, 2] (ls' := [some (.ref a0), none, none]) rfl ?_
        exact hk
theorem c_X3_rock {l : Launch} {d : Nat} (hd : 1 ≤ d) {σ : vMem} {a0 : Nat} {x1 : Int32} {x2 : Int32} {r : Int32 × vMem} (h : f_X3_rock σ a0 x1 x2 = some r) : vOk l yX3_rock cX3_rock 3 (some .int) d [.ref a0, .int x1, .int x2] σ (.inl ((eI).1 r, (eI).2 r)) := V_method (em := eI) [some (.ref a0), some (.int x1), some (.int x2)] (by decide +kernel) rfl (Nat.le_of_ble_eq_true rfl) (w_X3_rock hd σ a0 x1 x2) h
/-! NobodyBeenAftModel.isMess(I)Z -/
def f_X3_isMess (σ : vMem) (a0 : Nat) (x1 : Int32) : Option (Int32) := cko σ a0 [3] (bp (f_X3_in σ (Int32.toInt64 x1) 0 (Int32.toInt64 ((gi σ a0 7) - 1))) (fun r => ck (narrow .boolean (.int r) = .int r) (some r)))
abbrev P_X3_isMess (l : Launch) (d n0 s0 : Nat) : vX → Prop := vMP l yX3_isMess cX3_isMess 2 (some .boolean) d n0 s0
theorem w_X3_isMess {l : Launch} {d n0 s0 : Nat} (hd : 1 ≤ d) (σ : vMem) (a0 : Nat) (x1 : Int32) : V (P_X3_isMess l d n0 s0) (vEmb (ePI σ)) σ 0 [some (.ref a0), some (.int x1)] [] (f_X3_isMess σ a0 x1) := by
  have hC : vPx (P_X3_isMess l d n0 s0) cX3_isMess 2 "NobodyBeenAftModel" (some .boolean) d := vMP_cx
  refine V_eq (f_X3_isMess.eq_1 ..) ?_
  refine V_iload_n hC dX3_isMess_0 rfl ?_
  refine V_i2l hC dX3_isMess_1 ?_
  refine V_lconst (v := 0) hC dX3_isMess_2 rfl ?_
  refine V_aload_n hC dX3_isMess_3 rfl ?_
  refine g_X3_117 hC dX3_isMess_4 ?_
  refine V_iconst (v := 1) hC dX3_isMess_7 rfl ?_
  refine V_isub hC dX3_isMess_8 ?_
  refine V_i2l hC dX3_isMess_9 ?_
  refine V_callS_PI (As := [.long (Int32.toInt64 x1), .long 0, .long (Int32.toInt64 ((gi σ a0 7) - 1))]) (rest := []) (d' := 0) hC dX3_isMess_10 3 (lw_S q1448 q1449 q87 q1450) (by decide +kernel) rfl rfl (Nat.le_of_ble_eq_true rfl) (Nat.le_trans (by decide) hd) (by decide) vMP_l (fun _ h => c_X3_in (Nat.le_refl _) h) (fun r => ?_)
  exact V_ck (fun h9 => V_zreturn h9 dX3_isMess_13 rfl rfl)
theorem c_X3_isMess {l : Launch} {d : Nat} (hd : 1 ≤ d) {σ : vMem} {a0 : Nat} {x1 : Int32} {r : Int32} (h : f_X3_isMess σ a0 x1 = some r) : vOk l yX3_isMess cX3_isMess 2 (some .boolean) d [.ref a0, .int x1] σ (.inl (((ePI σ)).1 r, ((ePI σ)).2 r)) := V_method (em := (ePI σ)) [some (.ref a0), some (.int x1)] (by decide +kernel) rfl (Nat.le_of_ble_eq_true rfl) (w_X3_isMess hd σ a0 x1) h
/-! NobodyBeenAftModel.mess(II)I -/
def f_X3_mess (σ : vMem) (a0 : Nat) (x1 : Int32) (x2 : Int32) : Option (Int32 × vMem) := cko σ a0 [3] (vl (si σ a0 0 0) (fun σ_1 => cko σ_1 a0 [3] (bp (f_X3_isMess σ_1 a0 x1) (fun r => vl (cko σ_1 a0 [3] (bd (f_X3_refuse σ_1 a0) (fun r_1 σ_2 => some (r_1, σ_2)))) (fun k => if r = 0 then k else bp (f_X3_in σ_1 (Int32.toInt64 x2) 0 2) (fun r_2 => if ¬ r_2 = 0 then (if ¬ x2 = 0 then (if ¬ x2 = 1 then (cko σ_1 a0 [3] (dr (gr σ_1 a0 14) (fun b => cka σ_1 b 105 (49 + x1) (some ((gi σ_1 b (Int32.toNatClampNeg (49 + x1))), σ_1))))) else cko σ_1 a0 [3] (dr (gr σ_1 a0 13) (fun b_1 => cka σ_1 b_1 105 x1 (some ((gi σ_1 b_1 (Int32.toNatClampNeg x1)), σ_1))))) else cko σ_1 a0 [3] (dr (gr σ_1 a0 14) (fun b_2 => cka σ_1 b_2 105 (41 + x1) (some ((gi σ_1 b_2 (Int32.toNatClampNeg (41 + x1))), σ_1))))) else k))))))
abbrev P_X3_mess (l : Launch) (d n0 s0 : Nat) : vX → Prop := vMP l yX3_mess cX3_mess 3 (some .int) d n0 s0
theorem w_X3_mess {l : Launch} {d n0 s0 : Nat} (hd : 2 ≤ d) (σ : vMem) (a0 : Nat) (x1 : Int32) (x2 : Int32) : V (P_X3_mess l d n0 s0) (vEmb eI) σ 0 [some (.ref a0), some (.int x1), some (.int x2)] [] (f_X3_mess σ a0 x1 x2) := by
  have hC : vPx (P_X3_mess l d n0 s0) cX3_mess 3 "NobodyBeenAftModel" (some .int) d := vMP_cx
  refine V_eq (f_X3_mess.eq_1 ..) ?_
  refine V_aload_n hC dX3_mess_0 rfl ?_
  refine V_iconst (v := 0) hC dX3_mess_1 rfl ?_
  refine p_X3_103 hC dX3_mess_2 (fun σ_1 => ?_)
  refine V_aload_n hC dX3_mess_5 rfl ?_
  refine V_iload_n hC dX3_mess_6 rfl ?_
  refine V_cko (fun hm => V_callV_PI (c := 3) (As := [.int x1]) (rest := []) (d' := 1) hC dX3_mess_7 1 (lw_V q1594 q1596 qs45 q87 q1597) (by decide +kernel) (List.mem_singleton.mp hm) (by decide) (by decide) rfl rfl rfl (Nat.le_of_ble_eq_true rfl) (Nat.le_trans (by decide) hd) (by decide) vMP_l (fun _ h => c_X3_isMess (Nat.le_refl _) h) (fun r => ?_))
  refine V_let (B := fun k => V (P_X3_mess l d n0 s0) (vEmb eI) σ_1 25 [some (.ref a0), none, none] [] (k)) ?_ ?_
  · skip
    refine V_aload_n hC dX3_mess_25 rfl ?_
    refine V_cko (fun hm => V_callV_I (c := 3) (As := []) (rest := []) (d' := 0) hC dX3_mess_26 0 (lw_V q1582 q1584 qs44 q87 q1585) (by decide +kernel) (List.mem_singleton.mp hm) (by decide) (by decide) rfl rfl rfl (Nat.le_of_ble_eq_true rfl) (Nat.le_trans (by decide) hd) (by decide) vMP_l (fun _ h => c_X3_refuse (Nat.le_refl _) h) (fun r_1 σ_2 => ?_))
    exact V_ireturn dX3_mess_29 rfl rfl
  · intro k hk
    refine V_if_eq (tgt := 25) hC dX3_mess_10 (by decide) ?_ ?_
    · refine V_clr [1, 2] (ls' := [some (.ref a0), none, none]) rfl ?_
      exact hk
    · refine V_iload_n hC dX3_mess_13 rfl ?_
      refine V_i2l hC dX3_mess_14 ?_
      refine V_lconst (v := 0) hC dX3_mess_15 rfl ?_
      refine V_ldc2 hC dX3_mess_16 q1598 ?_
      refine V_callS_PI (As := [.long (Int32.toInt64 x2), .long 0, .long 2]) (rest := []) (d' := 0) hC dX3_mess_19 3 (lw_S q1448 q1449 q87 q1450) (by decide +kernel) rfl rfl (Nat.le_of_ble_eq_true rfl) (Nat.le_trans (by decide) hd) (by decide) vMP_l (fun _ h => c_X3_in (Nat.le_refl _) h) (fun r_2 => ?_)
      refine V_if_ne (tgt := 30) hC dX3_mess_22 (by decide) ?_ ?_
      · refine V_iload_n hC dX3_mess_30 rfl ?_
        refine V_if_ne (tgt := 46) hC dX3_mess_31 (by decide) ?_ ?_
        · refine V_iload_n hC dX3_mess_46 rfl ?_
          refine V_iconst (v := 1) hC dX3_mess_47 rfl ?_
          refine V_icmp_ne (tgt := 60) hC dX3_mess_48 (by decide) ?_ ?_
          · refine V_aload_n hC dX3_mess_60 rfl ?_
            refine g_X3_34 hC dX3_mess_61 (fun b => ?_)
            refine V_bipush (v := 49) hC dX3_mess_64 rfl ?_
            refine V_iload_n hC dX3_mess_66 rfl ?_
            refine V_iadd hC dX3_mess_67 ?_
            refine V_iald hC dX3_mess_68 ?_
            exact V_ireturn dX3_mess_69 rfl rfl
          · refine V_aload_n hC dX3_mess_51 rfl ?_
            refine g_X3_31 hC dX3_mess_52 (fun b_1 => ?_)
            refine V_iload_n hC dX3_mess_55 rfl ?_
            refine V_iald hC dX3_mess_56 ?_
            refine V_goto (tgt := 69) hC dX3_mess_57 (by decide) ?_
            exact V_ireturn dX3_mess_69 rfl rfl
        · refine V_aload_n hC dX3_mess_34 rfl ?_
          refine g_X3_34 hC dX3_mess_35 (fun b_2 => ?_)
          refine V_bipush (v := 41) hC dX3_mess_38 rfl ?_
          refine V_iload_n hC dX3_mess_40 rfl ?_
          refine V_iadd hC dX3_mess_41 ?_
          refine V_iald hC dX3_mess_42 ?_
          refine V_goto (tgt := 69) hC dX3_mess_43 (by decide) ?_
          exact V_ireturn dX3_mess_69 rfl rfl
      · refine V_clr [1, 2] (ls' := [some (.ref a0), none, none]) rfl ?_
        exact hk
theorem c_X3_mess {l : Launch} {d : Nat} (hd : 2 ≤ d) {σ : vMem} {a0 : Nat} {x1 : Int32} {x2 : Int32} {r : Int32 × vMem} (h : f_X3_mess σ a0 x1 x2 = some r) : vOk l yX3_mess cX3_mess 3 (some .int) d [.ref a0, .int x1, .int x2] σ (.inl ((eI).1 r, (eI).2 r)) := V_method (em := eI) [some (.ref a0), some (.int x1), some (.int x2)] (by decide +kernel) rfl (Nat.le_of_ble_eq_true rfl) (w_X3_mess hd σ a0 x1 x2) h
/-! NobodyBeenAftModel.isAhead(II)Z -/
def f_X3_isAhead (σ : vMem) (a0 : Nat) (x1 : Int32) (x2 : Int32) : Option (Int32) := vl (5 + (3 * x1)) (fun v3 => vl (5 + (3 * x2)) (fun v4 => cko σ a0 [3] (dr (gr σ a0 14) (fun b => cka σ b 105 (v3 + 0) (cko σ a0 [3] (dr (gr σ a0 14) (fun b_1 => cka σ b_1 105 (v4 + 0) (vl (some 1) (fun k => if (gi σ b (Int32.toNatClampNeg (v3 + 0))) < (gi σ b_1 (Int32.toNatClampNeg (v4 + 0))) then k else cko σ a0 [3] (dr (gr σ a0 14) (fun b_2 => cka σ b_2 105 (v3 + 0) (cko σ a0 [3] (dr (gr σ a0 14) (fun b_3 => cka σ b_3 105 (v4 + 0) (vl (some 0) (fun k_1 => if ¬ (gi σ b_2 (Int32.toNatClampNeg (v3 + 0))) = (gi σ b_3 (Int32.toNatClampNeg (v4 + 0))) then k_1 else cko σ a0 [3] (dr (gr σ a0 14) (fun b_4 => cka σ b_4 105 (v3 + 2) (cko σ a0 [3] (dr (gr σ a0 14) (fun b_5 => cka σ b_5 105 (v4 + 2) (if (gi σ b_5 (Int32.toNatClampNeg (v4 + 2))) ≤ (gi σ b_4 (Int32.toNatClampNeg (v3 + 2))) then k_1 else k))))))))))))))))))))))
abbrev P_X3_isAhead (l : Launch) (d n0 s0 : Nat) : vX → Prop := vMP l yX3_isAhead cX3_isAhead 5 (some .boolean) d n0 s0
theorem w_X3_isAhead {l : Launch} {d n0 s0 : Nat} (hd : 0 ≤ d) (σ : vMem) (a0 : Nat) (x1 : Int32) (x2 : Int32) : V (P_X3_isAhead l d n0 s0) (vEmb (ePI σ)) σ 0 [some (.ref a0), some (.int x1), some (.int x2), none, none] [] (f_X3_isAhead σ a0 x1 x2) := by
  have hC : vPx (P_X3_isAhead l d n0 s0) cX3_isAhead 5 "NobodyBeenAftModel" (some .boolean) d := vMP_cx
  refine V_eq (f_X3_isAhead.eq_1 ..) ?_
  refine V_iconst (v := 5) hC dX3_isAhead_0 rfl ?_
  refine V_iconst (v := 3) hC dX3_isAhead_1 rfl ?_
  refine V_iload_n hC dX3_isAhead_2 rfl ?_
  refine V_imul hC dX3_isAhead_3 ?_
  refine V_iadd hC dX3_isAhead_4 ?_
  refine V_istore_nL (ls' := fun v3 => [some (.ref a0), some (.int x1), some (.int x2), some (.int v3), none]) hC dX3_isAhead_5 (by decide) rfl (fun _ => rfl) (fun v3 => ?_)
  refine V_iconst (v := 5) hC dX3_isAhead_6 rfl ?_
  refine V_iconst (v := 3) hC dX3_isAhead_7 rfl ?_
  refine V_iload_n hC dX3_isAhead_8 rfl ?_
  refine V_imul hC dX3_isAhead_9 ?_
  refine V_iadd hC dX3_isAhead_10 ?_
  refine V_istoreL (ls' := fun v4 => [some (.ref a0), some (.int x1), some (.int x2), some (.int v3), some (.int v4)]) hC dX3_isAhead_11 (by decide) rfl (fun _ => rfl) (fun v4 => ?_)
  refine V_aload_n hC dX3_isAhead_13 rfl ?_
  refine g_X3_34 hC dX3_isAhead_14 (fun b => ?_)
  refine V_iload_n hC dX3_isAhead_17 rfl ?_
  refine V_iconst (v := 0) hC dX3_isAhead_18 rfl ?_
  refine V_iadd hC dX3_isAhead_19 ?_
  refine V_iald hC dX3_isAhead_20 ?_
  refine V_aload_n hC dX3_isAhead_21 rfl ?_
  refine g_X3_34 hC dX3_isAhead_22 (fun b_1 => ?_)
  refine V_iload hC dX3_isAhead_25 rfl ?_
  refine V_iconst (v := 0) hC dX3_isAhead_27 rfl ?_
  refine V_iadd hC dX3_isAhead_28 ?_
  refine V_iald hC dX3_isAhead_29 ?_
  refine V_let (B := fun k => V (P_X3_isAhead l d n0 s0) (vEmb (ePI σ)) σ 73 [none, none, none, none, none] [] (k)) ?_ ?_
  · skip
    refine V_iconst (v := 1) hC dX3_isAhead_73 rfl ?_
    refine V_goto (tgt := 78) hC dX3_isAhead_74 (by decide) ?_
    exact V_zreturn rfl dX3_isAhead_78 rfl rfl
  · intro k hk
    refine V_icmp_lt (tgt := 73) hC dX3_isAhead_30 (by decide) ?_ ?_
    · refine V_clr [0, 1, 2, 3, 4] (ls' := [none, none, none, none, none]) rfl ?_
      exact hk
    · refine V_aload_n hC dX3_isAhead_33 rfl ?_
      refine g_X3_34 hC dX3_isAhead_34 (fun b_2 => ?_)
      refine V_iload_n hC dX3_isAhead_37 rfl ?_
      refine V_iconst (v := 0) hC dX3_isAhead_38 rfl ?_
      refine V_iadd hC dX3_isAhead_39 ?_
      refine V_iald hC dX3_isAhead_40 ?_
      refine V_aload_n hC dX3_isAhead_41 rfl ?_
      refine g_X3_34 hC dX3_isAhead_42 (fun b_3 => ?_)
      refine V_iload hC dX3_isAhead_45 rfl ?_
      refine V_iconst (v := 0) hC dX3_isAhead_47 rfl ?_
      refine V_iadd hC dX3_isAhead_48 ?_
      refine V_iald hC dX3_isAhead_49 ?_
      refine V_let (B := fun k_1 => V (P_X3_isAhead l d n0 s0) (vEmb (ePI σ)) σ 77 [none, none, none, none, none] [] (k_1)) ?_ ?_
      · skip
        refine V_iconst (v := 0) hC dX3_isAhead_77 rfl ?_
        exact V_zreturn rfl dX3_isAhead_78 rfl rfl
      · intro k_1 hk_1
        refine V_icmp_ne (tgt := 77) hC dX3_isAhead_50 (by decide) ?_ ?_
        · refine V_clr [0, 1, 2, 3, 4] (ls' := [none, none, none, none, none]) rfl ?_
          exact hk_1
        · refine V_aload_n hC dX3_isAhead_53 rfl ?_
          refine g_X3_34 hC dX3_isAhead_54 (fun b_4 => ?_)
          refine V_iload_n hC dX3_isAhead_57 rfl ?_
          refine V_iconst (v := 2) hC dX3_isAhead_58 rfl ?_
          refine V_iadd hC dX3_isAhead_59 ?_
          refine V_iald hC dX3_isAhead_60 ?_
          refine V_aload_n hC dX3_isAhead_61 rfl ?_
          refine g_X3_34 hC dX3_isAhead_62 (fun b_5 => ?_)
          refine V_iload hC dX3_isAhead_65 rfl ?_
          refine V_iconst (v := 2) hC dX3_isAhead_67 rfl ?_
          refine V_iadd hC dX3_isAhead_68 ?_
          refine V_iald hC dX3_isAhead_69 ?_
          refine V_icmp_ge (tgt := 77) hC dX3_isAhead_70 (by decide) ?_ ?_
          · refine V_clr [0, 1, 2, 3, 4] (ls' := [none, none, none, none, none]) rfl ?_
            exact hk_1
          · refine V_clr [0, 1, 2, 3, 4] (ls' := [none, none, none, none, none]) rfl ?_
            exact hk
theorem c_X3_isAhead {l : Launch} {d : Nat} (hd : 0 ≤ d) {σ : vMem} {a0 : Nat} {x1 : Int32} {x2 : Int32} {r : Int32} (h : f_X3_isAhead σ a0 x1 x2 = some r) : vOk l yX3_isAhead cX3_isAhead 5 (some .boolean) d [.ref a0, .int x1, .int x2] σ (.inl (((ePI σ)).1 r, ((ePI σ)).2 r)) := V_method (em := (ePI σ)) [some (.ref a0), some (.int x1), some (.int x2), none, none] (by decide +kernel) rfl (Nat.le_of_ble_eq_true rfl) (w_X3_isAhead hd σ a0 x1 x2) h
/-! NobodyBeenAftModel.way(II)I -/
def f_X3_way_60 (a0 : Nat) (x1 : Int32) (x2 : Int32) (σ_1 : vMem) (v3_1 : Int32) (v4 : Int32) (k_2 : Int32 → Option (Int32 × vMem)) : Nat → Int32 → Int32 → Option (Int32 × vMem)
  | 0, _, _ => none
  | n_1 + 1, v5_1, v6 => cko σ_1 a0 [3] (dr (gr σ_1 a0 14) (fun b_5 => cka σ_1 b_5 105 3 (if (gi σ_1 b_5 (Int32.toNatClampNeg 3)) ≤ v6 then (k_2 v5_1) else cko σ_1 a0 [3] (bp (f_X3_isAhead σ_1 a0 v6 v4) (fun r_3 => bp (f_X3_flag σ_1 r_3) (fun r_4 => vl (v5_1 + r_4) (fun v5_2 => vl (v6 + 1) (fun v6_1 => f_X3_way_60 a0 x1 x2 σ_1 v3_1 v4 k_2 n_1 v5_2 v6_1))))))))
def f_X3_way_43 (a0 : Nat) (x1 : Int32) (x2 : Int32) (σ_1 : vMem) (k_1 : Int32 → Option (Int32 × vMem)) : Nat → Int32 → Int32 → Option (Int32 × vMem)
  | 0, _, _ => none
  | n + 1, v3_1, v4 => cko σ_1 a0 [3] (dr (gr σ_1 a0 14) (fun b_4 => cka σ_1 b_4 105 3 (if (gi σ_1 b_4 (Int32.toNatClampNeg 3)) ≤ v4 then (k_1 v3_1) else vl (fun (v5 : Int32) => vl (fun (y : Int32) => vl (v4 + 1) (fun v4_1 => f_X3_way_43 a0 x1 x2 σ_1 k_1 n y v4_1)) (fun k_3 => if ¬ v5 = x1 then (k_3 v3_1) else k_3 v4)) (fun k_2 => f_X3_way_60 a0 x1 x2 σ_1 v3_1 v4 k_2 FU 0 0))))
def f_X3_way (σ : vMem) (a0 : Nat) (x1 : Int32) (x2 : Int32) : Option (Int32 × vMem) := cko σ a0 [3] (vl (si σ a0 0 0) (fun σ_1 => cko σ_1 a0 [3] (dr (gr σ_1 a0 14) (fun b => cka σ_1 b 105 3 (bp (f_X3_in σ_1 (Int32.toInt64 x1) 0 (Int32.toInt64 ((gi σ_1 b (Int32.toNatClampNeg 3)) - 1))) (fun r => vl (cko σ_1 a0 [3] (bd (f_X3_refuse σ_1 a0) (fun r_1 σ_2 => some (r_1, σ_2)))) (fun k => if r = 0 then k else bp (f_X3_in σ_1 (Int32.toInt64 x2) 0 1) (fun r_2 => if ¬ r_2 = 0 then (vl (fun (v3 : Int32) => if ¬ x2 = 0 then (cko σ_1 a0 [3] (dr (gr σ_1 a0 14) (fun b_1 => cka σ_1 b_1 105 ((5 + (3 * v3)) + 1) (some ((gi σ_1 b_1 (Int32.toNatClampNeg ((5 + (3 * v3)) + 1))), σ_1))))) else cko σ_1 a0 [3] (dr (gr σ_1 a0 14) (fun b_2 => cka σ_1 b_2 105 ((5 + (3 * v3)) + 0) (cko σ_1 a0 [3] (dr (gr σ_1 a0 14) (fun b_3 => cka σ_1 b_3 105 0 (some (((gi σ_1 b_2 (Int32.toNatClampNeg ((5 + (3 * v3)) + 0))) - (gi σ_1 b_3 (Int32.toNatClampNeg 0))), σ_1)))))))) (fun k_1 => f_X3_way_43 a0 x1 x2 σ_1 k_1 FU 0 0)) else k))))))))
abbrev P_X3_way (l : Launch) (d n0 s0 : Nat) : vX → Prop := vMP l yX3_way cX3_way 7 (some .int) d n0 s0
theorem w_X3_way_60 {l : Launch} {d n0 s0 : Nat} (hd : 1 ≤ d) (a0 : Nat) (x1 : Int32) (x2 : Int32) (σ_1 : vMem) (v3_1 : Int32) (v4 : Int32) (k_2 : Int32 → Option (Int32 × vMem)) (hk_2 : ∀ (v5 : Int32), V (P_X3_way l d n0 s0) (vEmb eI) σ_1 93 [some (.ref a0), some (.int x1), some (.int x2), some (.int v3_1), some (.int v4), some (.int v5), none] [] (k_2 v5)) : ∀ (n_1 : Nat) (v5_1 : Int32) (v6 : Int32), V (P_X3_way l d n0 s0) (vEmb eI) σ_1 60 [some (.ref a0), some (.int x1), some (.int x2), some (.int v3_1), some (.int v4), some (.int v5_1), some (.int v6)] [] (f_X3_way_60 a0 x1 x2 σ_1 v3_1 v4 k_2 n_1 v5_1 v6) := by
  have hC : vPx (P_X3_way l d n0 s0) cX3_way 7 "NobodyBeenAftModel" (some .int) d := vMP_cx
  intro n_1
  induction n_1 with
  | zero =>
    intro v5_1 v6
    exact V_none
  | succ n_1 ih =>
    intro v5_1 v6
    refine V_eq (f_X3_way_60.eq_2 ..) ?_
    refine V_iload hC dX3_way_60 rfl ?_
    refine V_aload_n hC dX3_way_62 rfl ?_
    refine g_X3_34 hC dX3_way_63 (fun b_5 => ?_)
    refine V_iconst (v := 3) hC dX3_way_66 rfl ?_
    refine V_iald hC dX3_way_67 ?_
    refine V_icmp_ge (tgt := 93) hC dX3_way_68 (by decide) ?_ ?_
    · refine V_clr [6] (ls' := [some (.ref a0), some (.int x1), some (.int x2), some (.int v3_1), some (.int v4), some (.int v5_1), none]) rfl ?_
      exact hk_2 v5_1
    · refine V_iload hC dX3_way_71 rfl ?_
      refine V_aload_n hC dX3_way_73 rfl ?_
      refine V_iload hC dX3_way_74 rfl ?_
      refine V_iload hC dX3_way_76 rfl ?_
      refine V_cko (fun hm => V_callV_PI (c := 3) (As := [.int v6, .int v4]) (rest := [.int v5_1]) (d' := 0) hC dX3_way_78 2 (lw_V q1603 q1605 qs46 q87 q1606) (by decide +kernel) (List.mem_singleton.mp hm) (by decide) (by decide) rfl rfl rfl (Nat.le_of_ble_eq_true rfl) (Nat.le_trans (by decide) hd) (by decide) vMP_l (fun _ h => c_X3_isAhead (Nat.le_refl _) h) (fun r_3 => ?_))
      refine V_callS_PI (As := [.int r_3]) (rest := [.int v5_1]) (d' := 0) hC dX3_way_81 1 (lw_S q1478 q1479 q87 q1480) (by decide +kernel) rfl rfl (Nat.le_of_ble_eq_true rfl) (Nat.le_trans (by decide) hd) (by decide) vMP_l (fun _ h => c_X3_flag (Nat.le_refl _) h) (fun r_4 => ?_)
      refine V_iadd hC dX3_way_84 ?_
      refine V_istoreL (ls' := fun v5_2 => [some (.ref a0), some (.int x1), some (.int x2), some (.int v3_1), some (.int v4), some (.int v5_2), some (.int v6)]) hC dX3_way_85 (by decide) rfl (fun _ => rfl) (fun v5_2 => ?_)
      refine V_iincL (v := v6 + 1) (ls' := fun v6_1 => [some (.ref a0), some (.int x1), some (.int x2), some (.int v3_1), some (.int v4), some (.int v5_2), some (.int v6_1)]) hC dX3_way_87 rfl (by decide) rfl rfl (fun _ => rfl) (fun v6_1 => ?_)
      refine V_goto (tgt := 60) hC dX3_way_90 (by decide) ?_
      exact ih v5_2 v6_1
theorem w_X3_way_43 {l : Launch} {d n0 s0 : Nat} (hd : 1 ≤ d) (a0 : Nat) (x1 : Int32) (x2 : Int32) (σ_1 : vMem) (k_1 : Int32 → Option (Int32 × vMem)) (hk_1 : ∀ (v3 : Int32), V (P_X3_way l d n0 s0) (vEmb eI) σ_1 112 [some (.ref a0), none, some (.int x2), some (.int v3), none, none, none] [] (k_1 v3)) : ∀ (n : Nat) (v3_1 : Int32) (v4 : Int32), V (P_X3_way l d n0 s0) (vEmb eI) σ_1 43 [some (.ref a0), some (.int x1), some (.int x2), some (.int v3_1), some (.int v4), none, none] [] (f_X3_way_43 a0 x1 x2 σ_1 k_1 n v3_1 v4) := by
  have hC : vPx (P_X3_way l d n0 s0) cX3_way 7 "NobodyBeenAftModel" (some .int) d := vMP_cx
  intro n
  induction n with
  | zero =>
    intro v3_1 v4
    exact V_none
  | succ n ih =>
    intro v3_1 v4
    refine V_eq (f_X3_way_43.eq_2 ..) ?_
    refine V_iload hC dX3_way_43 rfl ?_
    refine V_aload_n hC dX3_way_45 rfl ?_
    refine g_X3_34 hC dX3_way_46 (fun b_4 => ?_)
    refine V_iconst (v := 3) hC dX3_way_49 rfl ?_
    refine V_iald hC dX3_way_50 ?_
    refine V_icmp_ge (tgt := 112) hC dX3_way_51 (by decide) ?_ ?_
    · refine V_clr [1, 4] (ls' := [some (.ref a0), none, some (.int x2), some (.int v3_1), none, none, none]) rfl ?_
      exact hk_1 v3_1
    · refine V_iconst (v := 0) hC dX3_way_54 rfl ?_
      refine V_istore (ls' := [some (.ref a0), some (.int x1), some (.int x2), some (.int v3_1), some (.int v4), some (.int 0), none]) hC dX3_way_55 (by decide) rfl rfl ?_
      refine V_iconst (v := 0) hC dX3_way_57 rfl ?_
      refine V_istore (ls' := [some (.ref a0), some (.int x1), some (.int x2), some (.int v3_1), some (.int v4), some (.int 0), some (.int 0)]) hC dX3_way_58 (by decide) rfl rfl ?_
      refine V_let (B := fun k_2 => ∀ (v5 : Int32), V (P_X3_way l d n0 s0) (vEmb eI) σ_1 93 [some (.ref a0), some (.int x1), some (.int x2), some (.int v3_1), some (.int v4), some (.int v5), none] [] (k_2 v5)) ?_ ?_
      · intro v5
        refine V_iload hC dX3_way_93 rfl ?_
        refine V_iload_n hC dX3_way_95 rfl ?_
        refine V_let (B := fun k_3 => ∀ (y : Int32), V (P_X3_way l d n0 s0) (vEmb eI) σ_1 105 [some (.ref a0), some (.int x1), some (.int x2), none, some (.int v4), none, none] [.int y] (k_3 y)) ?_ ?_
        · intro y
          refine V_istore_n (ls' := [some (.ref a0), some (.int x1), some (.int x2), some (.int y), some (.int v4), none, none]) hC dX3_way_105 (by decide) rfl rfl ?_
          refine V_iincL (v := v4 + 1) (ls' := fun v4_1 => [some (.ref a0), some (.int x1), some (.int x2), some (.int y), some (.int v4_1), none, none]) hC dX3_way_106 rfl (by decide) rfl rfl (fun _ => rfl) (fun v4_1 => ?_)
          refine V_goto (tgt := 43) hC dX3_way_109 (by decide) ?_
          exact ih y v4_1
        · intro k_3 hk_3
          refine V_icmp_ne (tgt := 104) hC dX3_way_96 (by decide) ?_ ?_
          · refine V_iload_n hC dX3_way_104 rfl ?_
            refine V_clr [3, 5] (ls' := [some (.ref a0), some (.int x1), some (.int x2), none, some (.int v4), none, none]) rfl ?_
            exact hk_3 v3_1
          · refine V_iload hC dX3_way_99 rfl ?_
            refine V_goto (tgt := 105) hC dX3_way_101 (by decide) ?_
            refine V_clr [3, 5] (ls' := [some (.ref a0), some (.int x1), some (.int x2), none, some (.int v4), none, none]) rfl ?_
            exact hk_3 v4
      · intro k_2 hk_2
        exact (w_X3_way_60 hd a0 x1 x2 σ_1 v3_1 v4 k_2 hk_2) FU 0 0
theorem w_X3_way {l : Launch} {d n0 s0 : Nat} (hd : 1 ≤ d) (σ : vMem) (a0 : Nat) (x1 : Int32) (x2 : Int32) : V (P_X3_way l d n0 s0) (vEmb eI) σ 0 [some (.ref a0), some (.int x1), some (.int x2), none, none, none, none] [] (f_X3_way σ a0 x1 x2) := by
  have hC : vPx (P_X3_way l d n0 s0) cX3_way 7 "NobodyBeenAftModel" (some .int) d := vMP_cx
  refine V_eq (f_X3_way.eq_1 ..) ?_
  refine V_aload_n hC dX3_way_0 rfl ?_
  refine V_iconst (v := 0) hC dX3_way_1 rfl ?_
  refine p_X3_103 hC dX3_way_2 (fun σ_1 => ?_)
  refine V_iload_n hC dX3_way_5 rfl ?_
  refine V_i2l hC dX3_way_6 ?_
  refine V_lconst (v := 0) hC dX3_way_7 rfl ?_
  refine V_aload_n hC dX3_way_8 rfl ?_
  refine g_X3_34 hC dX3_way_9 (fun b => ?_)
  refine V_iconst (v := 3) hC dX3_way_12 rfl ?_
  refine V_iald hC dX3_way_13 ?_
  refine V_iconst (v := 1) hC dX3_way_14 rfl ?_
  refine V_isub hC dX3_way_15 ?_
  refine V_i2l hC dX3_way_16 ?_
  refine V_callS_PI (As := [.long (Int32.toInt64 x1), .long 0, .long (Int32.toInt64 ((gi σ_1 b (Int32.toNatClampNeg 3)) - 1))]) (rest := []) (d' := 0) hC dX3_way_17 3 (lw_S q1448 q1449 q87 q1450) (by decide +kernel) rfl rfl (Nat.le_of_ble_eq_true rfl) (Nat.le_trans (by decide) hd) (by decide) vMP_l (fun _ h => c_X3_in (Nat.le_refl _) h) (fun r => ?_)
  refine V_let (B := fun k => V (P_X3_way l d n0 s0) (vEmb eI) σ_1 33 [some (.ref a0), none, none, none, none, none, none] [] (k)) ?_ ?_
  · skip
    refine V_aload_n hC dX3_way_33 rfl ?_
    refine V_cko (fun hm => V_callV_I (c := 3) (As := []) (rest := []) (d' := 0) hC dX3_way_34 0 (lw_V q1582 q1584 qs44 q87 q1585) (by decide +kernel) (List.mem_singleton.mp hm) (by decide) (by decide) rfl rfl rfl (Nat.le_of_ble_eq_true rfl) (Nat.le_trans (by decide) hd) (by decide) vMP_l (fun _ h => c_X3_refuse (Nat.le_refl _) h) (fun r_1 σ_2 => ?_))
    exact V_ireturn dX3_way_37 rfl rfl
  · intro k hk
    refine V_if_eq (tgt := 33) hC dX3_way_20 (by decide) ?_ ?_
    · refine V_clr [1, 2] (ls' := [some (.ref a0), none, none, none, none, none, none]) rfl ?_
      exact hk
    · refine V_iload_n hC dX3_way_23 rfl ?_
      refine V_i2l hC dX3_way_24 ?_
      refine V_lconst (v := 0) hC dX3_way_25 rfl ?_
      refine V_lconst (v := 1) hC dX3_way_26 rfl ?_
      refine V_callS_PI (As := [.long (Int32.toInt64 x2), .long 0, .long 1]) (rest := []) (d' := 0) hC dX3_way_27 3 (lw_S q1448 q1449 q87 q1450) (by decide +kernel) rfl rfl (Nat.le_of_ble_eq_true rfl) (Nat.le_trans (by decide) hd) (by decide) vMP_l (fun _ h => c_X3_in (Nat.le_refl _) h) (fun r_2 => ?_)
      refine V_if_ne (tgt := 38) hC dX3_way_30 (by decide) ?_ ?_
      · refine V_iconst (v := 0) hC dX3_way_38 rfl ?_
        refine V_istore_n (ls' := [some (.ref a0), some (.int x1), some (.int x2), some (.int 0), none, none, none]) hC dX3_way_39 (by decide) rfl rfl ?_
        refine V_iconst (v := 0) hC dX3_way_40 rfl ?_
        refine V_istore (ls' := [some (.ref a0), some (.int x1), some (.int x2), some (.int 0), some (.int 0), none, none]) hC dX3_way_41 (by decide) rfl rfl ?_
        refine V_let (B := fun k_1 => ∀ (v3 : Int32), V (P_X3_way l d n0 s0) (vEmb eI) σ_1 112 [some (.ref a0), none, some (.int x2), some (.int v3), none, none, none] [] (k_1 v3)) ?_ ?_
        · intro v3
          refine V_iload_n hC dX3_way_112 rfl ?_
          refine V_if_ne (tgt := 138) hC dX3_way_113 (by decide) ?_ ?_
          · refine V_aload_n hC dX3_way_138 rfl ?_
            refine g_X3_34 hC dX3_way_139 (fun b_1 => ?_)
            refine V_iconst (v := 5) hC dX3_way_142 rfl ?_
            refine V_iconst (v := 3) hC dX3_way_143 rfl ?_
            refine V_iload_n hC dX3_way_144 rfl ?_
            refine V_imul hC dX3_way_145 ?_
            refine V_iadd hC dX3_way_146 ?_
            refine V_iconst (v := 1) hC dX3_way_147 rfl ?_
            refine V_iadd hC dX3_way_148 ?_
            refine V_iald hC dX3_way_149 ?_
            exact V_ireturn dX3_way_150 rfl rfl
          · refine V_aload_n hC dX3_way_116 rfl ?_
            refine g_X3_34 hC dX3_way_117 (fun b_2 => ?_)
            refine V_iconst (v := 5) hC dX3_way_120 rfl ?_
            refine V_iconst (v := 3) hC dX3_way_121 rfl ?_
            refine V_iload_n hC dX3_way_122 rfl ?_
            refine V_imul hC dX3_way_123 ?_
            refine V_iadd hC dX3_way_124 ?_
            refine V_iconst (v := 0) hC dX3_way_125 rfl ?_
            refine V_iadd hC dX3_way_126 ?_
            refine V_iald hC dX3_way_127 ?_
            refine V_aload_n hC dX3_way_128 rfl ?_
            refine g_X3_34 hC dX3_way_129 (fun b_3 => ?_)
            refine V_iconst (v := 0) hC dX3_way_132 rfl ?_
            refine V_iald hC dX3_way_133 ?_
            refine V_isub hC dX3_way_134 ?_
            refine V_goto (tgt := 150) hC dX3_way_135 (by decide) ?_
            exact V_ireturn dX3_way_150 rfl rfl
        · intro k_1 hk_1
          exact (w_X3_way_43 hd a0 x1 x2 σ_1 k_1 hk_1) FU 0 0
      · refine V_clr [1, 2] (ls' := [some (.ref a0), none, none, none, none, none, none]) rfl ?_
        exact hk
theorem c_X3_way {l : Launch} {d : Nat} (hd : 1 ≤ d) {σ : vMem} {a0 : Nat} {x1 : Int32} {x2 : Int32} {r : Int32 × vMem} (h : f_X3_way σ a0 x1 x2 = some r) : vOk l yX3_way cX3_way 7 (some .int) d [.ref a0, .int x1, .int x2] σ (.inl ((eI).1 r, (eI).2 r)) := V_method (em := eI) [some (.ref a0), some (.int x1), some (.int x2), none, none, none, none] (by decide +kernel) rfl (Nat.le_of_ble_eq_true rfl) (w_X3_way hd σ a0 x1 x2) h
/-! NobodyBeenAftModel.sheet(IIII)I -/
def f_X3_sheet_46 (a0 : Nat) (x1 : Int32) (x2 : Int32) (x4 : Int32) (k_1 : vMem → Int32 → Option (Int32 × vMem)) : Nat → vMem → Int32 → Int32 → Int32 → Option (Int32 × vMem)
  | 0, _, _, _, _ => none
  | n + 1, σ_3, v5_1, v6, v7 => cko σ_3 a0 [3] (if (gi σ_3 a0 7) ≤ v7 then (k_1 σ_3 v5_1) else vl (fun (y : Int32) => cko σ_3 a0 [3] (dr (gr σ_3 a0 13) (fun b => vl (fun (y_1 : Int32) => cka σ_3 b 105 v7 (vl (si σ_3 b (Int32.toNatClampNeg v7) y_1) (fun σ_4 => cko σ_4 a0 [3] (dr (gr σ_4 a0 13) (fun b_1 => cka σ_4 b_1 105 v7 (vl (v5_1 + (gi σ_4 b_1 (Int32.toNatClampNeg v7))) (fun v5_2 => vl (v6 + x4) (fun v6_1 => vl (v7 + 1) (fun v7_1 => f_X3_sheet_46 a0 x1 x2 x4 k_1 n σ_4 v5_2 v6_1 v7_1))))))))) (fun k_3 => vl (k_3 0) (fun k_4 => if x1 = 3 then k_4 else if v7 < x2 then (k_3 (imax 0 (imin 9 y))) else k_4))))) (fun k_2 => if ¬ x1 = 0 then (if ¬ x1 = 1 then (k_2 v6) else k_2 ((Int32.toInt16 v6).toInt32)) else k_2 ((Int32.toInt8 v6).toInt32)))
def f_X3_sheet (σ : vMem) (a0 : Nat) (x1 : Int32) (x2 : Int32) (x3 : Int32) (x4 : Int32) : Option (Int32 × vMem) := cko σ a0 [3] (vl (si σ a0 0 0) (fun σ_1 => bp (f_X3_in σ_1 (Int32.toInt64 x1) 0 3) (fun r => if r = 0 then (some ((-1), σ_1)) else if x2 ≤ 8 then (vl (vl (fun (σ_2 : vMem) (v5 : Int32) => if ¬ x1 = 3 then (some (v5, σ_2)) else some ((-3), σ_2)) (fun k_1 => f_X3_sheet_46 a0 x1 x2 x4 k_1 FU σ_1 0 x3 0)) (fun k => if x1 = 3 then k else if 0 ≤ x2 then k else some ((-2), σ_1))) else some ((-1), σ_1))))
abbrev P_X3_sheet (l : Launch) (d n0 s0 : Nat) : vX → Prop := vMP l yX3_sheet cX3_sheet 9 (some .int) d n0 s0
theorem w_X3_sheet_46 {l : Launch} {d n0 s0 : Nat} (hd : 1 ≤ d) (a0 : Nat) (x1 : Int32) (x2 : Int32) (x4 : Int32) (k_1 : vMem → Int32 → Option (Int32 × vMem)) (hk_1 : ∀ (σ_2 : vMem), ∀ (v5 : Int32), V (P_X3_sheet l d n0 s0) (vEmb eI) σ_2 138 [none, some (.int x1), none, none, none, some (.int v5), none, none, none] [] (k_1 σ_2 v5)) : ∀ (n : Nat) (σ_3 : vMem) (v5_1 : Int32) (v6 : Int32) (v7 : Int32), V (P_X3_sheet l d n0 s0) (vEmb eI) σ_3 46 [some (.ref a0), some (.int x1), some (.int x2), none, some (.int x4), some (.int v5_1), some (.int v6), some (.int v7), none] [] (f_X3_sheet_46 a0 x1 x2 x4 k_1 n σ_3 v5_1 v6 v7) := by
  have hC : vPx (P_X3_sheet l d n0 s0) cX3_sheet 9 "NobodyBeenAftModel" (some .int) d := vMP_cx
  intro n
  induction n with
  | zero =>
    intro σ_3 v5_1 v6 v7
    exact V_none
  | succ n ih =>
    intro σ_3 v5_1 v6 v7
    refine V_eq (f_X3_sheet_46.eq_2 ..) ?_
    refine V_iload hC dX3_sheet_46 rfl ?_
    refine V_aload_n hC dX3_sheet_48 rfl ?_
    refine g_X3_117 hC dX3_sheet_49 ?_
    refine V_icmp_ge (tgt := 138) hC dX3_sheet_52 (by decide) ?_ ?_
    · refine V_clr [0, 2, 4, 6, 7] (ls' := [none, some (.int x1), none, none, none, some (.int v5_1), none, none, none]) rfl ?_
      exact hk_1 σ_3 v5_1
    · refine V_iload_n hC dX3_sheet_55 rfl ?_
      refine V_let (B := fun k_2 => ∀ (y : Int32), V (P_X3_sheet l d n0 s0) (vEmb eI) σ_3 78 [some (.ref a0), some (.int x1), some (.int x2), none, some (.int x4), some (.int v5_1), some (.int v6), some (.int v7), none] [.int y] (k_2 y)) ?_ ?_
      · intro y
        refine V_istore (ls' := [some (.ref a0), some (.int x1), some (.int x2), none, some (.int x4), some (.int v5_1), some (.int v6), some (.int v7), some (.int y)]) hC dX3_sheet_78 (by decide) rfl rfl ?_
        refine V_aload_n hC dX3_sheet_80 rfl ?_
        refine g_X3_31 hC dX3_sheet_81 (fun b => ?_)
        refine V_iload hC dX3_sheet_84 rfl ?_
        refine V_iload_n hC dX3_sheet_86 rfl ?_
        refine V_iconst (v := 3) hC dX3_sheet_87 rfl ?_
        refine V_let (B := fun k_3 => ∀ (y_1 : Int32), V (P_X3_sheet l d n0 s0) (vEmb eI) σ_3 112 [some (.ref a0), some (.int x1), some (.int x2), none, some (.int x4), some (.int v5_1), some (.int v6), some (.int v7), none] [.int y_1, .int v7, .ref b] (k_3 y_1)) ?_ ?_
        · intro y_1
          refine V_iast hC dX3_sheet_112 (fun σ_4 => ?_)
          refine V_iload hC dX3_sheet_113 rfl ?_
          refine V_aload_n hC dX3_sheet_115 rfl ?_
          refine g_X3_31 hC dX3_sheet_116 (fun b_1 => ?_)
          refine V_iload hC dX3_sheet_119 rfl ?_
          refine V_iald hC dX3_sheet_121 ?_
          refine V_iadd hC dX3_sheet_122 ?_
          refine V_istoreL (ls' := fun v5_2 => [some (.ref a0), some (.int x1), some (.int x2), none, some (.int x4), some (.int v5_2), some (.int v6), some (.int v7), none]) hC dX3_sheet_123 (by decide) rfl (fun _ => rfl) (fun v5_2 => ?_)
          refine V_iload hC dX3_sheet_125 rfl ?_
          refine V_iload hC dX3_sheet_127 rfl ?_
          refine V_iadd hC dX3_sheet_129 ?_
          refine V_istoreL (ls' := fun v6_1 => [some (.ref a0), some (.int x1), some (.int x2), none, some (.int x4), some (.int v5_2), some (.int v6_1), some (.int v7), none]) hC dX3_sheet_130 (by decide) rfl (fun _ => rfl) (fun v6_1 => ?_)
          refine V_iincL (v := v7 + 1) (ls' := fun v7_1 => [some (.ref a0), some (.int x1), some (.int x2), none, some (.int x4), some (.int v5_2), some (.int v6_1), some (.int v7_1), none]) hC dX3_sheet_132 rfl (by decide) rfl rfl (fun _ => rfl) (fun v7_1 => ?_)
          refine V_goto (tgt := 46) hC dX3_sheet_135 (by decide) ?_
          exact ih σ_4 v5_2 v6_1 v7_1
        · intro k_3 hk_3
          refine V_let (B := fun k_4 => V (P_X3_sheet l d n0 s0) (vEmb eI) σ_3 97 [some (.ref a0), some (.int x1), some (.int x2), none, some (.int x4), some (.int v5_1), some (.int v6), some (.int v7), none] [.int v7, .ref b] (k_4)) ?_ ?_
          · skip
            refine V_iconst (v := 0) hC dX3_sheet_97 rfl ?_
            refine V_goto (tgt := 112) hC dX3_sheet_98 (by decide) ?_
            exact hk_3 0
          · intro k_4 hk_4
            refine V_icmp_eq (tgt := 97) hC dX3_sheet_88 (by decide) ?_ ?_
            · refine V_clr [8] (ls' := [some (.ref a0), some (.int x1), some (.int x2), none, some (.int x4), some (.int v5_1), some (.int v6), some (.int v7), none]) rfl ?_
              exact hk_4
            · refine V_iload hC dX3_sheet_91 rfl ?_
              refine V_iload_n hC dX3_sheet_93 rfl ?_
              refine V_icmp_lt (tgt := 101) hC dX3_sheet_94 (by decide) ?_ ?_
              · refine V_iconst (v := 0) hC dX3_sheet_101 rfl ?_
                refine V_bipush (v := 9) hC dX3_sheet_102 rfl ?_
                refine V_iload hC dX3_sheet_104 rfl ?_
                refine V_mmin hC dX3_sheet_106 q1459 q327 q90 q328 (Nat.le_of_ble_eq_true rfl) ?_
                refine V_mmax hC dX3_sheet_109 q1612 q677 q90 q678 (Nat.le_of_ble_eq_true rfl) ?_
                refine V_clr [8] (ls' := [some (.ref a0), some (.int x1), some (.int x2), none, some (.int x4), some (.int v5_1), some (.int v6), some (.int v7), none]) rfl ?_
                exact hk_3 (imax 0 (imin 9 y))
              · refine V_clr [8] (ls' := [some (.ref a0), some (.int x1), some (.int x2), none, some (.int x4), some (.int v5_1), some (.int v6), some (.int v7), none]) rfl ?_
                exact hk_4
      · intro k_2 hk_2
        refine V_if_ne (tgt := 65) hC dX3_sheet_56 (by decide) ?_ ?_
        · refine V_iload_n hC dX3_sheet_65 rfl ?_
          refine V_iconst (v := 1) hC dX3_sheet_66 rfl ?_
          refine V_icmp_ne (tgt := 76) hC dX3_sheet_67 (by decide) ?_ ?_
          · refine V_iload hC dX3_sheet_76 rfl ?_
            exact hk_2 v6
          · refine V_iload hC dX3_sheet_70 rfl ?_
            refine V_i2s hC dX3_sheet_72 ?_
            refine V_goto (tgt := 78) hC dX3_sheet_73 (by decide) ?_
            exact hk_2 ((Int32.toInt16 v6).toInt32)
        · refine V_iload hC dX3_sheet_59 rfl ?_
          refine V_i2b hC dX3_sheet_61 ?_
          refine V_goto (tgt := 78) hC dX3_sheet_62 (by decide) ?_
          exact hk_2 ((Int32.toInt8 v6).toInt32)
theorem w_X3_sheet {l : Launch} {d n0 s0 : Nat} (hd : 1 ≤ d) (σ : vMem) (a0 : Nat) (x1 : Int32) (x2 : Int32) (x3 : Int32) (x4 : Int32) : V (P_X3_sheet l d n0 s0) (vEmb eI) σ 0 [some (.ref a0), some (.int x1), some (.int x2), some (.int x3), some (.int x4), none, none, none, none] [] (f_X3_sheet σ a0 x1 x2 x3 x4) := by
  have hC : vPx (P_X3_sheet l d n0 s0) cX3_sheet 9 "NobodyBeenAftModel" (some .int) d := vMP_cx
  refine V_eq (f_X3_sheet.eq_1 ..) ?_
  refine V_aload_n hC dX3_sheet_0 rfl ?_
  refine V_iconst (v := 0) hC dX3_sheet_1 rfl ?_
  refine p_X3_103 hC dX3_sheet_2 (fun σ_1 => ?_)
  refine V_iload_n hC dX3_sheet_5 rfl ?_
  refine V_i2l hC dX3_sheet_6 ?_
  refine V_lconst (v := 0) hC dX3_sheet_7 rfl ?_
  refine V_ldc2 hC dX3_sheet_8 q1611 ?_
  refine V_callS_PI (As := [.long (Int32.toInt64 x1), .long 0, .long 3]) (rest := []) (d' := 0) hC dX3_sheet_11 3 (lw_S q1448 q1449 q87 q1450) (by decide +kernel) rfl rfl (Nat.le_of_ble_eq_true rfl) (Nat.le_trans (by decide) hd) (by decide) vMP_l (fun _ h => c_X3_in (Nat.le_refl _) h) (fun r => ?_)
  refine V_if_eq (tgt := 23) hC dX3_sheet_14 (by decide) ?_ ?_
  · refine V_iconst (v := (-1)) hC dX3_sheet_23 rfl ?_
    exact V_ireturn dX3_sheet_24 rfl rfl
  · refine V_iload_n hC dX3_sheet_17 rfl ?_
    refine V_bipush (v := 8) hC dX3_sheet_18 rfl ?_
    refine V_icmp_le (tgt := 25) hC dX3_sheet_20 (by decide) ?_ ?_
    · refine V_iload_n hC dX3_sheet_25 rfl ?_
      refine V_iconst (v := 3) hC dX3_sheet_26 rfl ?_
      refine V_let (B := fun k => V (P_X3_sheet l d n0 s0) (vEmb eI) σ_1 37 [some (.ref a0), some (.int x1), some (.int x2), some (.int x3), some (.int x4), none, none, none, none] [] (k)) ?_ ?_
      · skip
        refine V_iconst (v := 0) hC dX3_sheet_37 rfl ?_
        refine V_istore (ls' := [some (.ref a0), some (.int x1), some (.int x2), some (.int x3), some (.int x4), some (.int 0), none, none, none]) hC dX3_sheet_38 (by decide) rfl rfl ?_
        refine V_iload_n hC dX3_sheet_40 rfl ?_
        refine V_istore (ls' := [some (.ref a0), some (.int x1), some (.int x2), some (.int x3), some (.int x4), some (.int 0), some (.int x3), none, none]) hC dX3_sheet_41 (by decide) rfl rfl ?_
        refine V_iconst (v := 0) hC dX3_sheet_43 rfl ?_
        refine V_istore (ls' := [some (.ref a0), some (.int x1), some (.int x2), some (.int x3), some (.int x4), some (.int 0), some (.int x3), some (.int 0), none]) hC dX3_sheet_44 (by decide) rfl rfl ?_
        refine V_let (B := fun k_1 => ∀ (σ_2 : vMem), ∀ (v5 : Int32), V (P_X3_sheet l d n0 s0) (vEmb eI) σ_2 138 [none, some (.int x1), none, none, none, some (.int v5), none, none, none] [] (k_1 σ_2 v5)) ?_ ?_
        · intro σ_2 v5
          refine V_iload_n hC dX3_sheet_138 rfl ?_
          refine V_iconst (v := 3) hC dX3_sheet_139 rfl ?_
          refine V_icmp_ne (tgt := 148) hC dX3_sheet_140 (by decide) ?_ ?_
          · refine V_iload hC dX3_sheet_148 rfl ?_
            exact V_ireturn dX3_sheet_150 rfl rfl
          · refine V_bipush (v := (-3)) hC dX3_sheet_143 rfl ?_
            refine V_goto (tgt := 150) hC dX3_sheet_145 (by decide) ?_
            exact V_ireturn dX3_sheet_150 rfl rfl
        · intro k_1 hk_1
          refine V_clr [3] (ls' := [some (.ref a0), some (.int x1), some (.int x2), none, some (.int x4), some (.int 0), some (.int x3), some (.int 0), none]) rfl ?_
          exact (w_X3_sheet_46 hd a0 x1 x2 x4 k_1 hk_1) FU σ_1 0 x3 0
      · intro k hk
        refine V_icmp_eq (tgt := 37) hC dX3_sheet_27 (by decide) ?_ ?_
        · exact hk
        · refine V_iload_n hC dX3_sheet_30 rfl ?_
          refine V_if_ge (tgt := 37) hC dX3_sheet_31 (by decide) ?_ ?_
          · exact hk
          · refine V_bipush (v := (-2)) hC dX3_sheet_34 rfl ?_
            exact V_ireturn dX3_sheet_36 rfl rfl
    · refine V_iconst (v := (-1)) hC dX3_sheet_23 rfl ?_
      exact V_ireturn dX3_sheet_24 rfl rfl
theorem c_X3_sheet {l : Launch} {d : Nat} (hd : 1 ≤ d) {σ : vMem} {a0 : Nat} {x1 : Int32} {x2 : Int32} {x3 : Int32} {x4 : Int32} {r : Int32 × vMem} (h : f_X3_sheet σ a0 x1 x2 x3 x4 = some r) : vOk l yX3_sheet cX3_sheet 9 (some .int) d [.ref a0, .int x1, .int x2, .int x3, .int x4] σ (.inl ((eI).1 r, (eI).2 r)) := V_method (em := eI) [some (.ref a0), some (.int x1), some (.int x2), some (.int x3), some (.int x4), none, none, none, none] (by decide +kernel) rfl (Nat.le_of_ble_eq_true rfl) (w_X3_sheet hd σ a0 x1 x2 x3 x4) h
/-! NobodyBeenAftModel.undo()I -/
def f_X3_undo_26 (a0 : Nat) (k : vMem → Option (Int32 × vMem)) : Nat → vMem → Int32 → Option (Int32 × vMem)
  | 0, _, _ => none
  | n + 1, σ_4, v1 => if 57 ≤ v1 then (k σ_4) else cko σ_4 a0 [3] (dr (gr σ_4 a0 14) (fun b => cko σ_4 a0 [3] (dr (gr σ_4 a0 30) (fun b_1 => cko σ_4 a0 [3] (cka σ_4 b_1 105 ((57 * (gi σ_4 a0 29)) + v1) (cka σ_4 b 105 v1 (vl (si σ_4 b (Int32.toNatClampNeg v1) (gi σ_4 b_1 (Int32.toNatClampNeg ((57 * (gi σ_4 a0 29)) + v1)))) (fun σ_5 => vl (v1 + 1) (fun v1_1 => f_X3_undo_26 a0 k n σ_5 v1_1)))))))))
def f_X3_undo (σ : vMem) (a0 : Nat) : Option (Int32 × vMem) := cko σ a0 [3] (vl (si σ a0 0 0) (fun σ_1 => cko σ_1 a0 [3] (if ¬ (gi σ_1 a0 29) = 0 then (cko σ_1 a0 [3] (cko σ_1 a0 [3] (vl (si σ_1 a0 29 ((gi σ_1 a0 29) - 1)) (fun σ_2 => vl (fun (σ_3 : vMem) => cko σ_3 a0 [3] (some ((gi σ_3 a0 29), σ_3))) (fun k => f_X3_undo_26 a0 k FU σ_2 0))))) else some ((-1), σ_1))))
abbrev P_X3_undo (l : Launch) (d n0 s0 : Nat) : vX → Prop := vMP l yX3_undo cX3_undo 2 (some .int) d n0 s0
theorem w_X3_undo_26 {l : Launch} {d n0 s0 : Nat} (hd : 0 ≤ d) (a0 : Nat) (k : vMem → Option (Int32 × vMem)) (hk : ∀ (σ_3 : vMem), V (P_X3_undo l d n0 s0) (vEmb eI) σ_3 58 [some (.ref a0), none] [] (k σ_3)) : ∀ (n : Nat) (σ_4 : vMem) (v1 : Int32), V (P_X3_undo l d n0 s0) (vEmb eI) σ_4 26 [some (.ref a0), some (.int v1)] [] (f_X3_undo_26 a0 k n σ_4 v1) := by
  have hC : vPx (P_X3_undo l d n0 s0) cX3_undo 2 "NobodyBeenAftModel" (some .int) d := vMP_cx
  intro n
  induction n with
  | zero =>
    intro σ_4 v1
    exact V_none
  | succ n ih =>
    intro σ_4 v1
    refine V_eq (f_X3_undo_26.eq_2 ..) ?_
    refine V_iload_n hC dX3_undo_26 rfl ?_
    refine V_bipush (v := 57) hC dX3_undo_27 rfl ?_
    refine V_icmp_ge (tgt := 58) hC dX3_undo_29 (by decide) ?_ ?_
    · refine V_clr [1] (ls' := [some (.ref a0), none]) rfl ?_
      exact hk σ_4
    · refine V_aload_n hC dX3_undo_32 rfl ?_
      refine g_X3_34 hC dX3_undo_33 (fun b => ?_)
      refine V_iload_n hC dX3_undo_36 rfl ?_
      refine V_aload_n hC dX3_undo_37 rfl ?_
      refine g_X3_58 hC dX3_undo_38 (fun b_1 => ?_)
      refine V_bipush (v := 57) hC dX3_undo_41 rfl ?_
      refine V_aload_n hC dX3_undo_43 rfl ?_
      refine g_X3_210 hC dX3_undo_44 ?_
      refine V_imul hC dX3_undo_47 ?_
      refine V_iload_n hC dX3_undo_48 rfl ?_
      refine V_iadd hC dX3_undo_49 ?_
      refine V_iald hC dX3_undo_50 ?_
      refine V_iast hC dX3_undo_51 (fun σ_5 => ?_)
      refine V_iincL (v := v1 + 1) (ls' := fun v1_1 => [some (.ref a0), some (.int v1_1)]) hC dX3_undo_52 rfl (by decide) rfl rfl (fun _ => rfl) (fun v1_1 => ?_)
      refine V_goto (tgt := 26) hC dX3_undo_55 (by decide) ?_
      exact ih σ_5 v1_1
theorem w_X3_undo {l : Launch} {d n0 s0 : Nat} (hd : 0 ≤ d) (σ : vMem) (a0 : Nat) : V (P_X3_undo l d n0 s0) (vEmb eI) σ 0 [some (.ref a0), none] [] (f_X3_undo σ a0) := by
  have hC : vPx (P_X3_undo l d n0 s0) cX3_undo 2 "NobodyBeenAftModel" (some .int) d := vMP_cx
  refine V_eq (f_X3_undo.eq_1 ..) ?_
  refine V_aload_n hC dX3_undo_0 rfl ?_
  refine V_iconst (v := 0) hC dX3_undo_1 rfl ?_
  refine p_X3_103 hC dX3_undo_2 (fun σ_1 => ?_)
  refine V_aload_n hC dX3_undo_5 rfl ?_
  refine g_X3_210 hC dX3_undo_6 ?_
  refine V_if_ne (tgt := 14) hC dX3_undo_9 (by decide) ?_ ?_
  · refine V_aload_n hC dX3_undo_14 rfl ?_
    refine V_dup hC dX3_undo_15 rfl ?_
    refine g_X3_210 hC dX3_undo_16 ?_
    refine V_iconst (v := 1) hC dX3_undo_19 rfl ?_
    refine V_isub hC dX3_undo_20 ?_
    refine p_X3_210 hC dX3_undo_21 (fun σ_2 => ?_)
    refine V_iconst (v := 0) hC dX3_undo_24 rfl ?_
    refine V_istore_n (ls' := [some (.ref a0), some (.int 0)]) hC dX3_undo_25 (by decide) rfl rfl ?_
    refine V_let (B := fun k => ∀ (σ_3 : vMem), V (P_X3_undo l d n0 s0) (vEmb eI) σ_3 58 [some (.ref a0), none] [] (k σ_3)) ?_ ?_
    · intro σ_3
      refine V_aload_n hC dX3_undo_58 rfl ?_
      refine g_X3_210 hC dX3_undo_59 ?_
      exact V_ireturn dX3_undo_62 rfl rfl
    · intro k hk
      exact (w_X3_undo_26 hd a0 k hk) FU σ_2 0
  · refine V_iconst (v := (-1)) hC dX3_undo_12 rfl ?_
    exact V_ireturn dX3_undo_13 rfl rfl
theorem c_X3_undo {l : Launch} {d : Nat} (hd : 0 ≤ d) {σ : vMem} {a0 : Nat} {r : Int32 × vMem} (h : f_X3_undo σ a0 = some r) : vOk l yX3_undo cX3_undo 2 (some .int) d [.ref a0] σ (.inl ((eI).1 r, (eI).2 r)) := V_method (em := eI) [some (.ref a0), none] (by decide +kernel) rfl (Nat.le_of_ble_eq_true rfl) (w_X3_undo hd σ a0) h
/-! NobodyBeenAftModel.worked(III)I -/
def f_X3_worked (σ : vMem) (x0 : Int32) (x1 : Int32) (x2 : Int32) : Option (Int32) := if x0 = 0 then (vl (fun (y : Int32) => bp (f_X3_flag σ y) (fun r => some r)) (fun k => if x2 ≤ x1 then (k 0) else k 1)) else if x0 = 1 then (vl (fun (y_1 : Int32) => bp (f_X3_flag σ y_1) (fun r_1 => some r_1)) (fun k_1 => if x1 ≤ x2 then (k_1 0) else k_1 1)) else if x0 = 2 then (vl (fun (y_2 : Int32) => bp (f_X3_flag σ y_2) (fun r_2 => some r_2)) (fun k_2 => if ¬ x1 = x2 then (k_2 0) else k_2 1)) else if x0 = 3 then (some (x1 + x2)) else if x0 = 4 then (some (x1 - x2)) else if x0 = 5 then (some (x1 * x2)) else if ¬ x2 = 0 then (ck (¬ x2 = 0) (some (x1 / x2))) else some 0
abbrev P_X3_worked (l : Launch) (d n0 s0 : Nat) : vX → Prop := vMP l yX3_worked cX3_worked 3 (some .int) d n0 s0
theorem w_X3_worked {l : Launch} {d n0 s0 : Nat} (hd : 1 ≤ d) (σ : vMem) (x0 : Int32) (x1 : Int32) (x2 : Int32) : V (P_X3_worked l d n0 s0) (vEmb (ePI σ)) σ 0 [some (.int x0), some (.int x1), some (.int x2)] [] (f_X3_worked σ x0 x1 x2) := by
  have hC : vPx (P_X3_worked l d n0 s0) cX3_worked 3 "NobodyBeenAftModel" (some .int) d := vMP_cx
  refine V_eq (f_X3_worked.eq_1 ..) ?_
  refine V_iload_n hC dX3_worked_0 rfl ?_
  refine V_if (fun hx => ?_) (fun h_0 => ?_)
  · refine V_tin 0 (off := 39) (tgt := 40) hC dX3_worked_1 hx (by decide) (by decide) (by decide) (by decide) ?_
    refine V_iload_n hC dX3_worked_40 rfl ?_
    refine V_iload_n hC dX3_worked_41 rfl ?_
    refine V_let (B := fun k => ∀ (y : Int32), V (P_X3_worked l d n0 s0) (vEmb (ePI σ)) σ 50 [none, none, none] [.int y] (k y)) ?_ ?_
    · intro y
      refine V_callS_PI (As := [.int y]) (rest := []) (d' := 0) hC dX3_worked_50 1 (lw_S q1478 q1479 q87 q1480) (by decide +kernel) rfl rfl (Nat.le_of_ble_eq_true rfl) (Nat.le_trans (by decide) hd) (by decide) vMP_l (fun _ h => c_X3_flag (Nat.le_refl _) h) (fun r => ?_)
      exact V_ireturn dX3_worked_53 rfl rfl
    · intro k hk
      refine V_icmp_ge (tgt := 49) hC dX3_worked_42 (by decide) ?_ ?_
      · refine V_iconst (v := 0) hC dX3_worked_49 rfl ?_
        refine V_clr [0, 1, 2] (ls' := [none, none, none]) rfl ?_
        exact hk 0
      · refine V_iconst (v := 1) hC dX3_worked_45 rfl ?_
        refine V_goto (tgt := 50) hC dX3_worked_46 (by decide) ?_
        refine V_clr [0, 1, 2] (ls' := [none, none, none]) rfl ?_
        exact hk 1
  · skip
    refine V_if (fun hx => ?_) (fun h_1 => ?_)
    · refine V_tin 1 (off := 53) (tgt := 54) hC dX3_worked_1 hx (by decide) (by decide) (by decide) (by decide) ?_
      refine V_iload_n hC dX3_worked_54 rfl ?_
      refine V_iload_n hC dX3_worked_55 rfl ?_
      refine V_let (B := fun k_1 => ∀ (y_1 : Int32), V (P_X3_worked l d n0 s0) (vEmb (ePI σ)) σ 64 [none, none, none] [.int y_1] (k_1 y_1)) ?_ ?_
      · intro y_1
        refine V_callS_PI (As := [.int y_1]) (rest := []) (d' := 0) hC dX3_worked_64 1 (lw_S q1478 q1479 q87 q1480) (by decide +kernel) rfl rfl (Nat.le_of_ble_eq_true rfl) (Nat.le_trans (by decide) hd) (by decide) vMP_l (fun _ h => c_X3_flag (Nat.le_refl _) h) (fun r_1 => ?_)
        exact V_ireturn dX3_worked_67 rfl rfl
      · intro k_1 hk_1
        refine V_icmp_le (tgt := 63) hC dX3_worked_56 (by decide) ?_ ?_
        · refine V_iconst (v := 0) hC dX3_worked_63 rfl ?_
          refine V_clr [0, 1, 2] (ls' := [none, none, none]) rfl ?_
          exact hk_1 0
        · refine V_iconst (v := 1) hC dX3_worked_59 rfl ?_
          refine V_goto (tgt := 64) hC dX3_worked_60 (by decide) ?_
          refine V_clr [0, 1, 2] (ls' := [none, none, none]) rfl ?_
          exact hk_1 1
    · skip
      refine V_if (fun hx => ?_) (fun h_2 => ?_)
      · refine V_tin 2 (off := 67) (tgt := 68) hC dX3_worked_1 hx (by decide) (by decide) (by decide) (by decide) ?_
        refine V_iload_n hC dX3_worked_68 rfl ?_
        refine V_iload_n hC dX3_worked_69 rfl ?_
        refine V_let (B := fun k_2 => ∀ (y_2 : Int32), V (P_X3_worked l d n0 s0) (vEmb (ePI σ)) σ 78 [none, none, none] [.int y_2] (k_2 y_2)) ?_ ?_
        · intro y_2
          refine V_callS_PI (As := [.int y_2]) (rest := []) (d' := 0) hC dX3_worked_78 1 (lw_S q1478 q1479 q87 q1480) (by decide +kernel) rfl rfl (Nat.le_of_ble_eq_true rfl) (Nat.le_trans (by decide) hd) (by decide) vMP_l (fun _ h => c_X3_flag (Nat.le_refl _) h) (fun r_2 => ?_)
          exact V_ireturn dX3_worked_81 rfl rfl
        · intro k_2 hk_2
          refine V_icmp_ne (tgt := 77) hC dX3_worked_70 (by decide) ?_ ?_
          · refine V_iconst (v := 0) hC dX3_worked_77 rfl ?_
            refine V_clr [0, 1, 2] (ls' := [none, none, none]) rfl ?_
            exact hk_2 0
          · refine V_iconst (v := 1) hC dX3_worked_73 rfl ?_
            refine V_goto (tgt := 78) hC dX3_worked_74 (by decide) ?_
            refine V_clr [0, 1, 2] (ls' := [none, none, none]) rfl ?_
            exact hk_2 1
      · skip
        refine V_if (fun hx => ?_) (fun h_3 => ?_)
        · refine V_tin 3 (off := 81) (tgt := 82) hC dX3_worked_1 hx (by decide) (by decide) (by decide) (by decide) ?_
          refine V_iload_n hC dX3_worked_82 rfl ?_
          refine V_iload_n hC dX3_worked_83 rfl ?_
          refine V_iadd hC dX3_worked_84 ?_
          exact V_ireturn dX3_worked_85 rfl rfl
        · skip
          refine V_if (fun hx => ?_) (fun h_4 => ?_)
          · refine V_tin 4 (off := 85) (tgt := 86) hC dX3_worked_1 hx (by decide) (by decide) (by decide) (by decide) ?_
            refine V_iload_n hC dX3_worked_86 rfl ?_
            refine V_iload_n hC dX3_worked_87 rfl ?_
            refine V_isub hC dX3_worked_88 ?_
            exact V_ireturn dX3_worked_89 rfl rfl
          · skip
            refine V_if (fun hx => ?_) (fun h_5 => ?_)
            · refine V_tin 5 (off := 89) (tgt := 90) hC dX3_worked_1 hx (by decide) (by decide) (by decide) (by decide) ?_
              refine V_iload_n hC dX3_worked_90 rfl ?_
              refine V_iload_n hC dX3_worked_91 rfl ?_
              refine V_imul hC dX3_worked_92 ?_
              exact V_ireturn dX3_worked_93 rfl rfl
            · skip
              refine V_tout (tgt := 94) hC dX3_worked_1 (by have q0 := sw_ne (n := 0) h_0 (by decide); have q1 := sw_ne (n := 1) h_1 (by decide); have q2 := sw_ne (n := 2) h_2 (by decide); have q3 := sw_ne (n := 3) h_3 (by decide); have q4 := sw_ne (n := 4) h_4 (by decide); have q5 := sw_ne (n := 5) h_5 (by decide); omega) (by decide) ?_
              refine V_iload_n hC dX3_worked_94 rfl ?_
              refine V_if_ne (tgt := 102) hC dX3_worked_95 (by decide) ?_ ?_
              · refine V_iload_n hC dX3_worked_102 rfl ?_
                refine V_iload_n hC dX3_worked_103 rfl ?_
                refine V_ck (fun h9 => V_idiv hC dX3_worked_104 h9 ?_)
                exact V_ireturn dX3_worked_105 rfl rfl
              · refine V_iconst (v := 0) hC dX3_worked_98 rfl ?_
                refine V_goto (tgt := 105) hC dX3_worked_99 (by decide) ?_
                exact V_ireturn dX3_worked_105 rfl rfl
theorem c_X3_worked {l : Launch} {d : Nat} (hd : 1 ≤ d) {σ : vMem} {x0 : Int32} {x1 : Int32} {x2 : Int32} {r : Int32} (h : f_X3_worked σ x0 x1 x2 = some r) : vOk l yX3_worked cX3_worked 3 (some .int) d [.int x0, .int x1, .int x2] σ (.inl (((ePI σ)).1 r, ((ePI σ)).2 r)) := V_method (em := (ePI σ)) [some (.int x0), some (.int x1), some (.int x2)] (by decide +kernel) rfl (Nat.le_of_ble_eq_true rfl) (w_X3_worked hd σ x0 x1 x2) h
/-! NobodyBeenAftModel.ruled()I -/
def f_X3_ruled_4 (a0 : Nat) (k : vMem → Option (Int32 × vMem)) : Nat → vMem → Int32 → Int32 → Option (Int32 × vMem)
  | 0, _, _, _ => none
  | n + 1, σ_2, v1, v2 => cko σ_2 a0 [3] (if (gi σ_2 a0 25) ≤ v2 then (k σ_2) else cko σ_2 a0 [3] (dr (gr σ_2 a0 23) (fun b_2 => cka σ_2 b_2 105 v2 (vl (gi σ_2 b_2 (Int32.toNatClampNeg v2)) (fun v3 => vl (fun (σ_3 : vMem) (v1_1 : Int32) => vl (v2 + 1) (fun v2_1 => f_X3_ruled_4 a0 k n σ_3 v1_1 v2_1)) (fun k_2 => if ¬ v3 = 3000 then (if v3 < 2000 then (cko σ_2 a0 [3] (dr (gr σ_2 a0 27) (fun b_3 => vl (fun (y_1 : Int32) => cka σ_2 b_3 105 v1 (vl (si σ_2 b_3 (Int32.toNatClampNeg v1) y_1) (fun σ_4 => vl (v1 + 1) (fun v1_2 => k_2 σ_4 v1_2)))) (fun k_3 => if v3 < 1000 then (k_3 v3) else cko σ_2 a0 [3] (dr (gr σ_2 a0 28) (fun b_4 => cka σ_2 b_4 105 (v3 - 1000) (k_3 (gi σ_2 b_4 (Int32.toNatClampNeg (v3 - 1000)))))))))) else vl (v1 + (-1)) (fun v1_3 => cko σ_2 a0 [3] (dr (gr σ_2 a0 27) (fun b_5 => cko σ_2 a0 [3] (dr (gr σ_2 a0 27) (fun b_6 => cka σ_2 b_6 105 (v1_3 - 1) (cko σ_2 a0 [3] (dr (gr σ_2 a0 27) (fun b_7 => cka σ_2 b_7 105 v1_3 (bp (f_X3_worked σ_2 (v3 - 2000) (gi σ_2 b_6 (Int32.toNatClampNeg (v1_3 - 1))) (gi σ_2 b_7 (Int32.toNatClampNeg v1_3))) (fun r => cka σ_2 b_5 105 (v1_3 - 1) (vl (si σ_2 b_5 (Int32.toNatClampNeg (v1_3 - 1)) r) (fun σ_5 => k_2 σ_5 v1_3))))))))))))) else cko σ_2 a0 [3] (dr (gr σ_2 a0 27) (fun b_8 => cko σ_2 a0 [3] (dr (gr σ_2 a0 27) (fun b_9 => cka σ_2 b_9 105 (v1 - 1) (cka σ_2 b_8 105 (v1 - 1) (vl (si σ_2 b_8 (Int32.toNatClampNeg (v1 - 1)) (-(gi σ_2 b_9 (Int32.toNatClampNeg (v1 - 1))))) (fun σ_6 => k_2 σ_6 v1)))))))))))))
def f_X3_ruled (σ : vMem) (a0 : Nat) : Option (Int32 × vMem) := vl (fun (σ_1 : vMem) => cko σ_1 a0 [3] (vl (fun (y : Int32) => some ((imax 1 (imin 12 y)), σ_1)) (fun k_1 => if ¬ (gi σ_1 a0 25) = 0 then (cko σ_1 a0 [3] (dr (gr σ_1 a0 27) (fun b => cka σ_1 b 105 0 (k_1 (gi σ_1 b (Int32.toNatClampNeg 0)))))) else cko σ_1 a0 [3] (dr (gr σ_1 a0 28) (fun b_1 => cka σ_1 b_1 105 0 (k_1 (((gi σ_1 b_1 (Int32.toNatClampNeg 0)) / 8) + 1))))))) (fun k => f_X3_ruled_4 a0 k FU σ 0 0)
abbrev P_X3_ruled (l : Launch) (d n0 s0 : Nat) : vX → Prop := vMP l yX3_ruled cX3_ruled 4 (some .int) d n0 s0
theorem w_X3_ruled_4 {l : Launch} {d n0 s0 : Nat} (hd : 2 ≤ d) (a0 : Nat) (k : vMem → Option (Int32 × vMem)) (hk : ∀ (σ_1 : vMem), V (P_X3_ruled l d n0 s0) (vEmb eI) σ_1 125 [some (.ref a0), none, none, none] [] (k σ_1)) : ∀ (n : Nat) (σ_2 : vMem) (v1 : Int32) (v2 : Int32), V (P_X3_ruled l d n0 s0) (vEmb eI) σ_2 4 [some (.ref a0), some (.int v1), some (.int v2), none] [] (f_X3_ruled_4 a0 k n σ_2 v1 v2) := by
  have hC : vPx (P_X3_ruled l d n0 s0) cX3_ruled 4 "NobodyBeenAftModel" (some .int) d := vMP_cx
  intro n
  induction n with
  | zero =>
    intro σ_2 v1 v2
    exact V_none
  | succ n ih =>
    intro σ_2 v1 v2
    refine V_eq (f_X3_ruled_4.eq_2 ..) ?_
    refine V_iload_n hC dX3_ruled_4 rfl ?_
    refine V_aload_n hC dX3_ruled_5 rfl ?_
    refine g_X3_237 hC dX3_ruled_6 ?_
    refine V_icmp_ge (tgt := 125) hC dX3_ruled_9 (by decide) ?_ ?_
    · refine V_clr [1, 2] (ls' := [some (.ref a0), none, none, none]) rfl ?_
      exact hk σ_2
    · refine V_aload_n hC dX3_ruled_12 rfl ?_
      refine g_X3_46 hC dX3_ruled_13 (fun b_2 => ?_)
      refine V_iload_n hC dX3_ruled_16 rfl ?_
      refine V_iald hC dX3_ruled_17 ?_
      refine V_istore_nL (ls' := fun v3 => [some (.ref a0), some (.int v1), some (.int v2), some (.int v3)]) hC dX3_ruled_18 (by decide) rfl (fun _ => rfl) (fun v3 => ?_)
      refine V_iload_n hC dX3_ruled_19 rfl ?_
      refine V_sipush (v := 3000) hC dX3_ruled_20 rfl ?_
      refine V_let (B := fun k_2 => ∀ (σ_3 : vMem), ∀ (v1_1 : Int32), V (P_X3_ruled l d n0 s0) (vEmb eI) σ_3 119 [some (.ref a0), some (.int v1_1), some (.int v2), none] [] (k_2 σ_3 v1_1)) ?_ ?_
      · intro σ_3 v1_1
        refine V_iincL (v := v2 + 1) (ls' := fun v2_1 => [some (.ref a0), some (.int v1_1), some (.int v2_1), none]) hC dX3_ruled_119 rfl (by decide) rfl rfl (fun _ => rfl) (fun v2_1 => ?_)
        refine V_goto (tgt := 4) hC dX3_ruled_122 (by decide) ?_
        exact ih σ_3 v1_1 v2_1
      · intro k_2 hk_2
        refine V_icmp_ne (tgt := 46) hC dX3_ruled_23 (by decide) ?_ ?_
        · refine V_iload_n hC dX3_ruled_46 rfl ?_
          refine V_sipush (v := 2000) hC dX3_ruled_47 rfl ?_
          refine V_icmp_lt (tgt := 89) hC dX3_ruled_50 (by decide) ?_ ?_
          · refine V_aload_n hC dX3_ruled_89 rfl ?_
            refine g_X3_52 hC dX3_ruled_90 (fun b_3 => ?_)
            refine V_iload_n hC dX3_ruled_93 rfl ?_
            refine V_iload_n hC dX3_ruled_94 rfl ?_
            refine V_sipush (v := 1000) hC dX3_ruled_95 rfl ?_
            refine V_let (B := fun k_3 => ∀ (y_1 : Int32), V (P_X3_ruled l d n0 s0) (vEmb eI) σ_2 115 [some (.ref a0), some (.int v1), some (.int v2), none] [.int y_1, .int v1, .ref b_3] (k_3 y_1)) ?_ ?_
            · intro y_1
              refine V_iast hC dX3_ruled_115 (fun σ_4 => ?_)
              refine V_iincL (v := v1 + 1) (ls' := fun v1_2 => [some (.ref a0), some (.int v1_2), some (.int v2), none]) hC dX3_ruled_116 rfl (by decide) rfl rfl (fun _ => rfl) (fun v1_2 => ?_)
              exact hk_2 σ_4 v1_2
            · intro k_3 hk_3
              refine V_icmp_lt (tgt := 114) hC dX3_ruled_98 (by decide) ?_ ?_
              · refine V_iload_n hC dX3_ruled_114 rfl ?_
                refine V_clr [3] (ls' := [some (.ref a0), some (.int v1), some (.int v2), none]) rfl ?_
                exact hk_3 v3
              · refine V_aload_n hC dX3_ruled_101 rfl ?_
                refine g_X3_55 hC dX3_ruled_102 (fun b_4 => ?_)
                refine V_iload_n hC dX3_ruled_105 rfl ?_
                refine V_sipush (v := 1000) hC dX3_ruled_106 rfl ?_
                refine V_isub hC dX3_ruled_109 ?_
                refine V_iald hC dX3_ruled_110 ?_
                refine V_goto (tgt := 115) hC dX3_ruled_111 (by decide) ?_
                refine V_clr [3] (ls' := [some (.ref a0), some (.int v1), some (.int v2), none]) rfl ?_
                exact hk_3 (gi σ_2 b_4 (Int32.toNatClampNeg (v3 - 1000)))
          · refine V_iincL (v := v1 + (-1)) (ls' := fun v1_3 => [some (.ref a0), some (.int v1_3), some (.int v2), some (.int v3)]) hC dX3_ruled_53 rfl (by decide) rfl rfl (fun _ => rfl) (fun v1_3 => ?_)
            refine V_aload_n hC dX3_ruled_56 rfl ?_
            refine g_X3_52 hC dX3_ruled_57 (fun b_5 => ?_)
            refine V_iload_n hC dX3_ruled_60 rfl ?_
            refine V_iconst (v := 1) hC dX3_ruled_61 rfl ?_
            refine V_isub hC dX3_ruled_62 ?_
            refine V_iload_n hC dX3_ruled_63 rfl ?_
            refine V_sipush (v := 2000) hC dX3_ruled_64 rfl ?_
            refine V_isub hC dX3_ruled_67 ?_
            refine V_aload_n hC dX3_ruled_68 rfl ?_
            refine g_X3_52 hC dX3_ruled_69 (fun b_6 => ?_)
            refine V_iload_n hC dX3_ruled_72 rfl ?_
            refine V_iconst (v := 1) hC dX3_ruled_73 rfl ?_
            refine V_isub hC dX3_ruled_74 ?_
            refine V_iald hC dX3_ruled_75 ?_
            refine V_aload_n hC dX3_ruled_76 rfl ?_
            refine g_X3_52 hC dX3_ruled_77 (fun b_7 => ?_)
            refine V_iload_n hC dX3_ruled_80 rfl ?_
            refine V_iald hC dX3_ruled_81 ?_
            refine V_callS_PI (As := [.int (v3 - 2000), .int (gi σ_2 b_6 (Int32.toNatClampNeg (v1_3 - 1))), .int (gi σ_2 b_7 (Int32.toNatClampNeg v1_3))]) (rest := [.int (v1_3 - 1), .ref b_5]) (d' := 1) hC dX3_ruled_82 3 (lw_S q1629 q1630 q87 q1631) (by decide +kernel) rfl rfl (Nat.le_of_ble_eq_true rfl) (Nat.le_trans (by decide) hd) (by decide) vMP_l (fun _ h => c_X3_worked (Nat.le_refl _) h) (fun r => ?_)
            refine V_iast hC dX3_ruled_85 (fun σ_5 => ?_)
            refine V_goto (tgt := 119) hC dX3_ruled_86 (by decide) ?_
            refine V_clr [3] (ls' := [some (.ref a0), some (.int v1_3), some (.int v2), none]) rfl ?_
            exact hk_2 σ_5 v1_3
        · refine V_aload_n hC dX3_ruled_26 rfl ?_
          refine g_X3_52 hC dX3_ruled_27 (fun b_8 => ?_)
          refine V_iload_n hC dX3_ruled_30 rfl ?_
          refine V_iconst (v := 1) hC dX3_ruled_31 rfl ?_
          refine V_isub hC dX3_ruled_32 ?_
          refine V_aload_n hC dX3_ruled_33 rfl ?_
          refine g_X3_52 hC dX3_ruled_34 (fun b_9 => ?_)
          refine V_iload_n hC dX3_ruled_37 rfl ?_
          refine V_iconst (v := 1) hC dX3_ruled_38 rfl ?_
          refine V_isub hC dX3_ruled_39 ?_
          refine V_iald hC dX3_ruled_40 ?_
          refine V_ineg hC dX3_ruled_41 ?_
          refine V_iast hC dX3_ruled_42 (fun σ_6 => ?_)
          refine V_goto (tgt := 119) hC dX3_ruled_43 (by decide) ?_
          refine V_clr [3] (ls' := [some (.ref a0), some (.int v1), some (.int v2), none]) rfl ?_
          exact hk_2 σ_6 v1
theorem w_X3_ruled {l : Launch} {d n0 s0 : Nat} (hd : 2 ≤ d) (σ : vMem) (a0 : Nat) : V (P_X3_ruled l d n0 s0) (vEmb eI) σ 0 [some (.ref a0), none, none, none] [] (f_X3_ruled σ a0) := by
  have hC : vPx (P_X3_ruled l d n0 s0) cX3_ruled 4 "NobodyBeenAftModel" (some .int) d := vMP_cx
  refine V_eq (f_X3_ruled.eq_1 ..) ?_
  refine V_iconst (v := 0) hC dX3_ruled_0 rfl ?_
  refine V_istore_n (ls' := [some (.ref a0), some (.int 0), none, none]) hC dX3_ruled_1 (by decide) rfl rfl ?_
  refine V_iconst (v := 0) hC dX3_ruled_2 rfl ?_
  refine V_istore_n (ls' := [some (.ref a0), some (.int 0), some (.int 0), none]) hC dX3_ruled_3 (by decide) rfl rfl ?_
  refine V_let (B := fun k => ∀ (σ_1 : vMem), V (P_X3_ruled l d n0 s0) (vEmb eI) σ_1 125 [some (.ref a0), none, none, none] [] (k σ_1)) ?_ ?_
  · intro σ_1
    refine V_aload_n hC dX3_ruled_125 rfl ?_
    refine g_X3_237 hC dX3_ruled_126 ?_
    refine V_let (B := fun k_1 => ∀ (y : Int32), V (P_X3_ruled l d n0 s0) (vEmb eI) σ_1 152 [none, none, none, none] [.int y] (k_1 y)) ?_ ?_
    · intro y
      refine V_istore_n (ls' := [none, none, some (.int y), none]) hC dX3_ruled_152 (by decide) rfl rfl ?_
      refine V_iconst (v := 1) hC dX3_ruled_153 rfl ?_
      refine V_bipush (v := 12) hC dX3_ruled_154 rfl ?_
      refine V_iload_n hC dX3_ruled_156 rfl ?_
      refine V_mmin hC dX3_ruled_157 q1459 q327 q90 q328 (Nat.le_of_ble_eq_true rfl) ?_
      refine V_mmax hC dX3_ruled_160 q1612 q677 q90 q678 (Nat.le_of_ble_eq_true rfl) ?_
      exact V_ireturn dX3_ruled_163 rfl rfl
    · intro k_1 hk_1
      refine V_if_ne (tgt := 146) hC dX3_ruled_129 (by decide) ?_ ?_
      · refine V_aload_n hC dX3_ruled_146 rfl ?_
        refine g_X3_52 hC dX3_ruled_147 (fun b => ?_)
        refine V_iconst (v := 0) hC dX3_ruled_150 rfl ?_
        refine V_iald hC dX3_ruled_151 ?_
        refine V_clr [0] (ls' := [none, none, none, none]) rfl ?_
        exact hk_1 (gi σ_1 b (Int32.toNatClampNeg 0))
      · refine V_aload_n hC dX3_ruled_132 rfl ?_
        refine g_X3_55 hC dX3_ruled_133 (fun b_1 => ?_)
        refine V_iconst (v := 0) hC dX3_ruled_136 rfl ?_
        refine V_iald hC dX3_ruled_137 ?_
        refine V_bipush (v := 8) hC dX3_ruled_138 rfl ?_
        refine V_idiv hC dX3_ruled_140 (by decide) ?_
        refine V_iconst (v := 1) hC dX3_ruled_141 rfl ?_
        refine V_iadd hC dX3_ruled_142 ?_
        refine V_goto (tgt := 152) hC dX3_ruled_143 (by decide) ?_
        refine V_clr [0] (ls' := [none, none, none, none]) rfl ?_
        exact hk_1 (((gi σ_1 b_1 (Int32.toNatClampNeg 0)) / 8) + 1)
  · intro k hk
    exact (w_X3_ruled_4 hd a0 k hk) FU σ 0 0
theorem c_X3_ruled {l : Launch} {d : Nat} (hd : 2 ≤ d) {σ : vMem} {a0 : Nat} {r : Int32 × vMem} (h : f_X3_ruled σ a0 = some r) : vOk l yX3_ruled cX3_ruled 4 (some .int) d [.ref a0] σ (.inl ((eI).1 r, (eI).2 r)) := V_method (em := eI) [some (.ref a0), none, none, none] (by decide +kernel) rfl (Nat.le_of_ble_eq_true rfl) (w_X3_ruled hd σ a0) h
/-! NobodyBeenAftModel.delayAt(I)I -/
def f_X3_delayAt (σ : vMem) (a0 : Nat) (x1 : Int32) : Option (Int32 × vMem) := cko σ a0 [3] (dr (gr σ a0 28) (fun b => cko σ a0 [3] (cka σ b 105 0 (vl (si σ b (Int32.toNatClampNeg 0) (gi σ a0 3)) (fun σ_1 => cko σ_1 a0 [3] (dr (gr σ_1 a0 28) (fun b_1 => cko σ_1 a0 [3] (cka σ_1 b_1 105 1 (vl (si σ_1 b_1 (Int32.toNatClampNeg 1) (gi σ_1 a0 4)) (fun σ_2 => cko σ_2 a0 [3] (dr (gr σ_2 a0 28) (fun b_2 => cko σ_2 a0 [3] (cka σ_2 b_2 105 2 (vl (si σ_2 b_2 (Int32.toNatClampNeg 2) (gi σ_2 a0 5)) (fun σ_3 => cko σ_3 a0 [3] (dr (gr σ_3 a0 28) (fun b_3 => cka σ_3 b_3 105 3 (vl (si σ_3 b_3 (Int32.toNatClampNeg 3) (x1 - (x1 / 12) * 12)) (fun σ_4 => cko σ_4 a0 [3] (bd (f_X3_ruled σ_4 a0) (fun r σ_5 => some (r, σ_5))))))))))))))))))))))
abbrev P_X3_delayAt (l : Launch) (d n0 s0 : Nat) : vX → Prop := vMP l yX3_delayAt cX3_delayAt 2 (some .int) d n0 s0
theorem w_X3_delayAt {l : Launch} {d n0 s0 : Nat} (hd : 3 ≤ d) (σ : vMem) (a0 : Nat) (x1 : Int32) : V (P_X3_delayAt l d n0 s0) (vEmb eI) σ 0 [some (.ref a0), some (.int x1)] [] (f_X3_delayAt σ a0 x1) := by
  have hC : vPx (P_X3_delayAt l d n0 s0) cX3_delayAt 2 "NobodyBeenAftModel" (some .int) d := vMP_cx
  refine V_eq (f_X3_delayAt.eq_1 ..) ?_
  refine V_aload_n hC dX3_delayAt_0 rfl ?_
  refine g_X3_55 hC dX3_delayAt_1 (fun b => ?_)
  refine V_iconst (v := 0) hC dX3_delayAt_4 rfl ?_
  refine V_aload_n hC dX3_delayAt_5 rfl ?_
  refine g_X3_13 hC dX3_delayAt_6 ?_
  refine V_iast hC dX3_delayAt_9 (fun σ_1 => ?_)
  refine V_aload_n hC dX3_delayAt_10 rfl ?_
  refine g_X3_55 hC dX3_delayAt_11 (fun b_1 => ?_)
  refine V_iconst (v := 1) hC dX3_delayAt_14 rfl ?_
  refine V_aload_n hC dX3_delayAt_15 rfl ?_
  refine g_X3_190 hC dX3_delayAt_16 ?_
  refine V_iast hC dX3_delayAt_19 (fun σ_2 => ?_)
  refine V_aload_n hC dX3_delayAt_20 rfl ?_
  refine g_X3_55 hC dX3_delayAt_21 (fun b_2 => ?_)
  refine V_iconst (v := 2) hC dX3_delayAt_24 rfl ?_
  refine V_aload_n hC dX3_delayAt_25 rfl ?_
  refine g_X3_193 hC dX3_delayAt_26 ?_
  refine V_iast hC dX3_delayAt_29 (fun σ_3 => ?_)
  refine V_aload_n hC dX3_delayAt_30 rfl ?_
  refine g_X3_55 hC dX3_delayAt_31 (fun b_3 => ?_)
  refine V_iconst (v := 3) hC dX3_delayAt_34 rfl ?_
  refine V_iload_n hC dX3_delayAt_35 rfl ?_
  refine V_bipush (v := 12) hC dX3_delayAt_36 rfl ?_
  refine V_irem hC dX3_delayAt_38 (by decide) ?_
  refine V_iast hC dX3_delayAt_39 (fun σ_4 => ?_)
  refine V_aload_n hC dX3_delayAt_40 rfl ?_
  refine V_cko (fun hm => V_callV_I (c := 3) (As := []) (rest := []) (d' := 2) hC dX3_delayAt_41 0 (lw_V q1625 q1627 qs48 q87 q1628) (by decide +kernel) (List.mem_singleton.mp hm) (by decide) (by decide) rfl rfl rfl (Nat.le_of_ble_eq_true rfl) (Nat.le_trans (by decide) hd) (by decide) vMP_l (fun _ h => c_X3_ruled (Nat.le_refl _) h) (fun r σ_5 => ?_))
  exact V_ireturn dX3_delayAt_44 rfl rfl
theorem c_X3_delayAt {l : Launch} {d : Nat} (hd : 3 ≤ d) {σ : vMem} {a0 : Nat} {x1 : Int32} {r : Int32 × vMem} (h : f_X3_delayAt σ a0 x1 = some r) : vOk l yX3_delayAt cX3_delayAt 2 (some .int) d [.ref a0, .int x1] σ (.inl ((eI).1 r, (eI).2 r)) := V_method (em := eI) [some (.ref a0), some (.int x1)] (by decide +kernel) rfl (Nat.le_of_ble_eq_true rfl) (w_X3_delayAt hd σ a0 x1) h
/-! NobodyBeenAftModel.delay()I -/
def f_X3_delay (σ : vMem) (a0 : Nat) : Option (Int32 × vMem) := cko σ a0 [3] (vl (si σ a0 0 0) (fun σ_1 => cko σ_1 a0 [3] (dr (gr σ_1 a0 14) (fun b => cka σ_1 b 105 0 (cko σ_1 a0 [3] (bd (f_X3_delayAt σ_1 a0 (gi σ_1 b (Int32.toNatClampNeg 0))) (fun r σ_2 => some (r, σ_2))))))))
abbrev P_X3_delay (l : Launch) (d n0 s0 : Nat) : vX → Prop := vMP l yX3_delay cX3_delay 1 (some .int) d n0 s0
theorem w_X3_delay {l : Launch} {d n0 s0 : Nat} (hd : 4 ≤ d) (σ : vMem) (a0 : Nat) : V (P_X3_delay l d n0 s0) (vEmb eI) σ 0 [some (.ref a0)] [] (f_X3_delay σ a0) := by
  have hC : vPx (P_X3_delay l d n0 s0) cX3_delay 1 "NobodyBeenAftModel" (some .int) d := vMP_cx
  refine V_eq (f_X3_delay.eq_1 ..) ?_
  refine V_aload_n hC dX3_delay_0 rfl ?_
  refine V_iconst (v := 0) hC dX3_delay_1 rfl ?_
  refine p_X3_103 hC dX3_delay_2 (fun σ_1 => ?_)
  refine V_aload_n hC dX3_delay_5 rfl ?_
  refine V_aload_n hC dX3_delay_6 rfl ?_
  refine g_X3_34 hC dX3_delay_7 (fun b => ?_)
  refine V_iconst (v := 0) hC dX3_delay_10 rfl ?_
  refine V_iald hC dX3_delay_11 ?_
  refine V_cko (fun hm => V_callV_I (c := 3) (As := [.int (gi σ_1 b (Int32.toNatClampNeg 0))]) (rest := []) (d' := 3) hC dX3_delay_12 1 (lw_V q1621 q1623 qs47 q87 q1624) (by decide +kernel) (List.mem_singleton.mp hm) (by decide) (by decide) rfl rfl rfl (Nat.le_of_ble_eq_true rfl) (Nat.le_trans (by decide) hd) (by decide) vMP_l (fun _ h => c_X3_delayAt (Nat.le_refl _) h) (fun r σ_2 => ?_))
  exact V_ireturn dX3_delay_15 rfl rfl
theorem c_X3_delay {l : Launch} {d : Nat} (hd : 4 ≤ d) {σ : vMem} {a0 : Nat} {r : Int32 × vMem} (h : f_X3_delay σ a0 = some r) : vOk l yX3_delay cX3_delay 1 (some .int) d [.ref a0] σ (.inl ((eI).1 r, (eI).2 r)) := V_method (em := eI) [some (.ref a0)] (by decide +kernel) rfl (Nat.le_of_ble_eq_true rfl) (w_X3_delay hd σ a0) h
/-! NobodyBeenAftModel.putsBy()V -/
def f_X3_putsBy_2 (a0 : Nat) : Nat → vMem → Int32 → Option (vMem)
  | 0, _, _ => none
  | n + 1, σ_1, v1 => if 57 ≤ v1 then (some σ_1) else cko σ_1 a0 [3] (dr (gr σ_1 a0 30) (fun b => cko σ_1 a0 [3] (cko σ_1 a0 [3] (dr (gr σ_1 a0 14) (fun b_1 => cka σ_1 b_1 105 v1 (cka σ_1 b 105 ((57 * (gi σ_1 a0 29)) + v1) (vl (si σ_1 b (Int32.toNatClampNeg ((57 * (gi σ_1 a0 29)) + v1)) (gi σ_1 b_1 (Int32.toNatClampNeg v1))) (fun σ_2 => vl (v1 + 1) (fun v1_1 => f_X3_putsBy_2 a0 n σ_2 v1_1)))))))))
def f_X3_putsBy (σ : vMem) (a0 : Nat) : Option (vMem) := f_X3_putsBy_2 a0 FU σ 0
abbrev P_X3_putsBy (l : Launch) (d n0 s0 : Nat) : vX → Prop := vMP l yX3_putsBy cX3_putsBy 2 none d n0 s0
theorem w_X3_putsBy_2 {l : Launch} {d n0 s0 : Nat} (hd : 0 ≤ d) (a0 : Nat)  : ∀ (n : Nat) (σ_1 : vMem) (v1 : Int32), V (P_X3_putsBy l d n0 s0) (vEmb eV) σ_1 2 [some (.ref a0), some (.int v1)] [] (f_X3_putsBy_2 a0 n σ_1 v1) := by
  have hC : vPx (P_X3_putsBy l d n0 s0) cX3_putsBy 2 "NobodyBeenAftModel" none d := vMP_cx
  intro n
  induction n with
  | zero =>
    intro σ_1 v1
    exact V_none
  | succ n ih =>
    intro σ_1 v1
    refine V_eq (f_X3_putsBy_2.eq_2 ..) ?_
    refine V_iload_n hC dX3_putsBy_2 rfl ?_
    refine V_bipush (v := 57) hC dX3_putsBy_3 rfl ?_
    refine V_icmp_ge (tgt := 34) hC dX3_putsBy_5 (by decide) ?_ ?_
    · exact V_return dX3_putsBy_34 rfl rfl
    · refine V_aload_n hC dX3_putsBy_8 rfl ?_
      refine g_X3_58 hC dX3_putsBy_9 (fun b => ?_)
      refine V_bipush (v := 57) hC dX3_putsBy_12 rfl ?_
      refine V_aload_n hC dX3_putsBy_14 rfl ?_
      refine g_X3_210 hC dX3_putsBy_15 ?_
      refine V_imul hC dX3_putsBy_18 ?_
      refine V_iload_n hC dX3_putsBy_19 rfl ?_
      refine V_iadd hC dX3_putsBy_20 ?_
      refine V_aload_n hC dX3_putsBy_21 rfl ?_
      refine g_X3_34 hC dX3_putsBy_22 (fun b_1 => ?_)
      refine V_iload_n hC dX3_putsBy_25 rfl ?_
      refine V_iald hC dX3_putsBy_26 ?_
      refine V_iast hC dX3_putsBy_27 (fun σ_2 => ?_)
      refine V_iincL (v := v1 + 1) (ls' := fun v1_1 => [some (.ref a0), some (.int v1_1)]) hC dX3_putsBy_28 rfl (by decide) rfl rfl (fun _ => rfl) (fun v1_1 => ?_)
      refine V_goto (tgt := 2) hC dX3_putsBy_31 (by decide) ?_
      exact ih σ_2 v1_1
theorem w_X3_putsBy {l : Launch} {d n0 s0 : Nat} (hd : 0 ≤ d) (σ : vMem) (a0 : Nat) : V (P_X3_putsBy l d n0 s0) (vEmb eV) σ 0 [some (.ref a0), none] [] (f_X3_putsBy σ a0) := by
  have hC : vPx (P_X3_putsBy l d n0 s0) cX3_putsBy 2 "NobodyBeenAftModel" none d := vMP_cx
  refine V_eq (f_X3_putsBy.eq_1 ..) ?_
  refine V_iconst (v := 0) hC dX3_putsBy_0 rfl ?_
  refine V_istore_n (ls' := [some (.ref a0), some (.int 0)]) hC dX3_putsBy_1 (by decide) rfl rfl ?_
  exact (w_X3_putsBy_2 hd a0) FU σ 0
theorem c_X3_putsBy {l : Launch} {d : Nat} (hd : 0 ≤ d) {σ : vMem} {a0 : Nat} {r : vMem} (h : f_X3_putsBy σ a0 = some r) : vOk l yX3_putsBy cX3_putsBy 2 none d [.ref a0] σ (.inl ((eV).1 r, (eV).2 r)) := V_method (em := eV) [some (.ref a0), none] (by decide +kernel) rfl (Nat.le_of_ble_eq_true rfl) (w_X3_putsBy hd σ a0) h
/-! NobodyBeenAftModel.turned(I)I -/
def f_X3_turned (σ : vMem) (a0 : Nat) (x1 : Int32) : Option (Int32) := cko σ a0 [3] (if ¬ ((gi σ a0 5) - ((gi σ a0 5) / 2) * 2) = 1 then (some x1) else some (-x1))
abbrev P_X3_turned (l : Launch) (d n0 s0 : Nat) : vX → Prop := vMP l yX3_turned cX3_turned 2 (some .int) d n0 s0
theorem w_X3_turned {l : Launch} {d n0 s0 : Nat} (hd : 0 ≤ d) (σ : vMem) (a0 : Nat) (x1 : Int32) : V (P_X3_turned l d n0 s0) (vEmb (ePI σ)) σ 0 [some (.ref a0), some (.int x1)] [] (f_X3_turned σ a0 x1) := by
  have hC : vPx (P_X3_turned l d n0 s0) cX3_turned 2 "NobodyBeenAftModel" (some .int) d := vMP_cx
  refine V_eq (f_X3_turned.eq_1 ..) ?_
  refine V_aload_n hC dX3_turned_0 rfl ?_
  refine g_X3_193 hC dX3_turned_1 ?_
  refine V_iconst (v := 2) hC dX3_turned_4 rfl ?_
  refine V_irem hC dX3_turned_5 (by decide) ?_
  refine V_iconst (v := 1) hC dX3_turned_6 rfl ?_
  refine V_icmp_ne (tgt := 15) hC dX3_turned_7 (by decide) ?_ ?_
  · refine V_iload_n hC dX3_turned_15 rfl ?_
    exact V_ireturn dX3_turned_16 rfl rfl
  · refine V_iload_n hC dX3_turned_10 rfl ?_
    refine V_ineg hC dX3_turned_11 ?_
    refine V_goto (tgt := 16) hC dX3_turned_12 (by decide) ?_
    exact V_ireturn dX3_turned_16 rfl rfl
theorem c_X3_turned {l : Launch} {d : Nat} (hd : 0 ≤ d) {σ : vMem} {a0 : Nat} {x1 : Int32} {r : Int32} (h : f_X3_turned σ a0 x1 = some r) : vOk l yX3_turned cX3_turned 2 (some .int) d [.ref a0, .int x1] σ (.inl (((ePI σ)).1 r, ((ePI σ)).2 r)) := V_method (em := (ePI σ)) [some (.ref a0), some (.int x1)] (by decide +kernel) rfl (Nat.le_of_ble_eq_true rfl) (w_X3_turned hd σ a0 x1) h
/-! NobodyBeenAftModel.gives([II)I -/
def f_X3_gives (σ : vMem) (a0 : Nat) (a1 : Nat) (x2 : Int32) : Option (Int32 × vMem) := bp (f_X3_in σ (Int32.toInt64 x2) (-1) 1) (fun r => if ¬ r = 0 then (cka σ a1 105 4 (cka σ a1 105 0 (if ¬ (gi σ a1 (Int32.toNatClampNeg 4)) = (gi σ a1 (Int32.toNatClampNeg 0)) then (cka σ a1 105 3 (if ¬ (gi σ a1 (Int32.toNatClampNeg 3)) = 12 then (cka σ a1 105 0 (cko σ a0 [3] (bd (f_X3_delayAt σ a0 (gi σ a1 (Int32.toNatClampNeg 0))) (fun r_1 σ_1 => cka σ_1 a1 105 3 (vl (5 + (3 * (gi σ_1 a1 (Int32.toNatClampNeg 3)))) (fun v4 => cka σ_1 a1 105 0 (cka σ_1 a1 105 (v4 + 0) (vl (si σ_1 a1 (Int32.toNatClampNeg (v4 + 0)) ((gi σ_1 a1 (Int32.toNatClampNeg 0)) + r_1)) (fun σ_2 => cko σ_2 a0 [3] (bp (f_X3_turned σ_2 a0 x2) (fun r_2 => cka σ_2 a1 105 (v4 + 1) (vl (si σ_2 a1 (Int32.toNatClampNeg (v4 + 1)) r_2) (fun σ_3 => cka σ_3 a1 105 0 (cka σ_3 a1 105 (v4 + 2) (vl (si σ_3 a1 (Int32.toNatClampNeg (v4 + 2)) (gi σ_3 a1 (Int32.toNatClampNeg 0))) (fun σ_4 => cka σ_4 a1 105 3 (cka σ_4 a1 105 3 (vl (si σ_4 a1 (Int32.toNatClampNeg 3) ((gi σ_4 a1 (Int32.toNatClampNeg 3)) + 1)) (fun σ_5 => cka σ_5 a1 105 0 (cka σ_5 a1 105 4 (vl (si σ_5 a1 (Int32.toNatClampNeg 4) (gi σ_5 a1 (Int32.toNatClampNeg 0))) (fun σ_6 => some (r_1, σ_6))))))))))))))))))))))) else some ((-3), σ))) else some ((-2), σ)))) else some ((-1), σ))
abbrev P_X3_gives (l : Launch) (d n0 s0 : Nat) : vX → Prop := vMP l yX3_gives cX3_gives 5 (some .int) d n0 s0
theorem w_X3_gives {l : Launch} {d n0 s0 : Nat} (hd : 4 ≤ d) (σ : vMem) (a0 : Nat) (a1 : Nat) (x2 : Int32) : V (P_X3_gives l d n0 s0) (vEmb eI) σ 0 [some (.ref a0), some (.ref a1), some (.int x2), none, none] [] (f_X3_gives σ a0 a1 x2) := by
  have hC : vPx (P_X3_gives l d n0 s0) cX3_gives 5 "NobodyBeenAftModel" (some .int) d := vMP_cx
  refine V_eq (f_X3_gives.eq_1 ..) ?_
  refine V_iload_n hC dX3_gives_0 rfl ?_
  refine V_i2l hC dX3_gives_1 ?_
  refine V_ldc2 hC dX3_gives_2 q1644 ?_
  refine V_lconst (v := 1) hC dX3_gives_5 rfl ?_
  refine V_callS_PI (As := [.long (Int32.toInt64 x2), .long (-1), .long 1]) (rest := []) (d' := 0) hC dX3_gives_6 3 (lw_S q1448 q1449 q87 q1450) (by decide +kernel) rfl rfl (Nat.le_of_ble_eq_true rfl) (Nat.le_trans (by decide) hd) (by decide) vMP_l (fun _ h => c_X3_in (Nat.le_refl _) h) (fun r => ?_)
  refine V_if_ne (tgt := 14) hC dX3_gives_9 (by decide) ?_ ?_
  · refine V_aload_n hC dX3_gives_14 rfl ?_
    refine V_iconst (v := 4) hC dX3_gives_15 rfl ?_
    refine V_iald hC dX3_gives_16 ?_
    refine V_aload_n hC dX3_gives_17 rfl ?_
    refine V_iconst (v := 0) hC dX3_gives_18 rfl ?_
    refine V_iald hC dX3_gives_19 ?_
    refine V_icmp_ne (tgt := 26) hC dX3_gives_20 (by decide) ?_ ?_
    · refine V_aload_n hC dX3_gives_26 rfl ?_
      refine V_iconst (v := 3) hC dX3_gives_27 rfl ?_
      refine V_iald hC dX3_gives_28 ?_
      refine V_bipush (v := 12) hC dX3_gives_29 rfl ?_
      refine V_icmp_ne (tgt := 37) hC dX3_gives_31 (by decide) ?_ ?_
      · refine V_aload_n hC dX3_gives_37 rfl ?_
        refine V_aload_n hC dX3_gives_38 rfl ?_
        refine V_iconst (v := 0) hC dX3_gives_39 rfl ?_
        refine V_iald hC dX3_gives_40 ?_
        refine V_cko (fun hm => V_callV_I (c := 3) (As := [.int (gi σ a1 (Int32.toNatClampNeg 0))]) (rest := []) (d' := 3) hC dX3_gives_41 1 (lw_V q1621 q1623 qs47 q87 q1624) (by decide +kernel) (List.mem_singleton.mp hm) (by decide) (by decide) rfl rfl rfl (Nat.le_of_ble_eq_true rfl) (Nat.le_trans (by decide) hd) (by decide) vMP_l (fun _ h => c_X3_delayAt (Nat.le_refl _) h) (fun r_1 σ_1 => ?_))
        refine V_istore_n (ls' := [some (.ref a0), some (.ref a1), some (.int x2), some (.int r_1), none]) hC dX3_gives_44 (by decide) rfl rfl ?_
        refine V_iconst (v := 5) hC dX3_gives_45 rfl ?_
        refine V_iconst (v := 3) hC dX3_gives_46 rfl ?_
        refine V_aload_n hC dX3_gives_47 rfl ?_
        refine V_iconst (v := 3) hC dX3_gives_48 rfl ?_
        refine V_iald hC dX3_gives_49 ?_
        refine V_imul hC dX3_gives_50 ?_
        refine V_iadd hC dX3_gives_51 ?_
        refine V_istoreL (ls' := fun v4 => [some (.ref a0), some (.ref a1), some (.int x2), some (.int r_1), some (.int v4)]) hC dX3_gives_52 (by decide) rfl (fun _ => rfl) (fun v4 => ?_)
        refine V_aload_n hC dX3_gives_54 rfl ?_
        refine V_iload hC dX3_gives_55 rfl ?_
        refine V_iconst (v := 0) hC dX3_gives_57 rfl ?_
        refine V_iadd hC dX3_gives_58 ?_
        refine V_aload_n hC dX3_gives_59 rfl ?_
        refine V_iconst (v := 0) hC dX3_gives_60 rfl ?_
        refine V_iald hC dX3_gives_61 ?_
        refine V_iload_n hC dX3_gives_62 rfl ?_
        refine V_iadd hC dX3_gives_63 ?_
        refine V_iast hC dX3_gives_64 (fun σ_2 => ?_)
        refine V_aload_n hC dX3_gives_65 rfl ?_
        refine V_iload hC dX3_gives_66 rfl ?_
        refine V_iconst (v := 1) hC dX3_gives_68 rfl ?_
        refine V_iadd hC dX3_gives_69 ?_
        refine V_aload_n hC dX3_gives_70 rfl ?_
        refine V_iload_n hC dX3_gives_71 rfl ?_
        refine V_cko (fun hm => V_callV_PI (c := 3) (As := [.int x2]) (rest := [.int (v4 + 1), .ref a1]) (d' := 0) hC dX3_gives_72 1 (lw_V q1645 q1647 qs51 q87 q1648) (by decide +kernel) (List.mem_singleton.mp hm) (by decide) (by decide) rfl rfl rfl (Nat.le_of_ble_eq_true rfl) (Nat.le_trans (by decide) hd) (by decide) vMP_l (fun _ h => c_X3_turned (Nat.le_refl _) h) (fun r_2 => ?_))
        refine V_iast hC dX3_gives_75 (fun σ_3 => ?_)
        refine V_aload_n hC dX3_gives_76 rfl ?_
        refine V_iload hC dX3_gives_77 rfl ?_
        refine V_iconst (v := 2) hC dX3_gives_79 rfl ?_
        refine V_iadd hC dX3_gives_80 ?_
        refine V_aload_n hC dX3_gives_81 rfl ?_
        refine V_iconst (v := 0) hC dX3_gives_82 rfl ?_
        refine V_iald hC dX3_gives_83 ?_
        refine V_iast hC dX3_gives_84 (fun σ_4 => ?_)
        refine V_aload_n hC dX3_gives_85 rfl ?_
        refine V_iconst (v := 3) hC dX3_gives_86 rfl ?_
        refine V_dup2 hC dX3_gives_87 rfl rfl ?_
        refine V_iald hC dX3_gives_88 ?_
        refine V_iconst (v := 1) hC dX3_gives_89 rfl ?_
        refine V_iadd hC dX3_gives_90 ?_
        refine V_iast hC dX3_gives_91 (fun σ_5 => ?_)
        refine V_aload_n hC dX3_gives_92 rfl ?_
        refine V_iconst (v := 4) hC dX3_gives_93 rfl ?_
        refine V_aload_n hC dX3_gives_94 rfl ?_
        refine V_iconst (v := 0) hC dX3_gives_95 rfl ?_
        refine V_iald hC dX3_gives_96 ?_
        refine V_iast hC dX3_gives_97 (fun σ_6 => ?_)
        refine V_iload_n hC dX3_gives_98 rfl ?_
        exact V_ireturn dX3_gives_99 rfl rfl
      · refine V_bipush (v := (-3)) hC dX3_gives_34 rfl ?_
        exact V_ireturn dX3_gives_36 rfl rfl
    · refine V_bipush (v := (-2)) hC dX3_gives_23 rfl ?_
      exact V_ireturn dX3_gives_25 rfl rfl
  · refine V_iconst (v := (-1)) hC dX3_gives_12 rfl ?_
    exact V_ireturn dX3_gives_13 rfl rfl
theorem c_X3_gives {l : Launch} {d : Nat} (hd : 4 ≤ d) {σ : vMem} {a0 : Nat} {a1 : Nat} {x2 : Int32} {r : Int32 × vMem} (h : f_X3_gives σ a0 a1 x2 = some r) : vOk l yX3_gives cX3_gives 5 (some .int) d [.ref a0, .ref a1, .int x2] σ (.inl ((eI).1 r, (eI).2 r)) := V_method (em := eI) [some (.ref a0), some (.ref a1), some (.int x2), none, none] (by decide +kernel) rfl (Nat.le_of_ble_eq_true rfl) (w_X3_gives hd σ a0 a1 x2) h
/-! NobodyBeenAftModel.adds(I)I -/
def f_X3_adds_21 (a0 : Nat) (x1 : Int32) (k : vMem → Option (Int32 × vMem)) : Nat → vMem → Int32 → Option (Int32 × vMem)
  | 0, _, _ => none
  | n + 1, σ_4, v2 => if 855 ≤ v2 then (k σ_4) else cko σ_4 a0 [3] (dr (gr σ_4 a0 30) (fun b => cko σ_4 a0 [3] (dr (gr σ_4 a0 30) (fun b_1 => cka σ_4 b_1 105 (v2 + 57) (cka σ_4 b 105 v2 (vl (si σ_4 b (Int32.toNatClampNeg v2) (gi σ_4 b_1 (Int32.toNatClampNeg (v2 + 57)))) (fun σ_5 => vl (v2 + 1) (fun v2_1 => f_X3_adds_21 a0 x1 k n σ_5 v2_1))))))))
def f_X3_adds (σ : vMem) (a0 : Nat) (x1 : Int32) : Option (Int32 × vMem) := cko σ a0 [3] (cko σ a0 [3] (vl (si σ a0 29 ((gi σ a0 29) + 1)) (fun σ_1 => cko σ_1 a0 [3] (if (gi σ_1 a0 29) ≤ 15 then (some (x1, σ_1)) else vl (fun (σ_2 : vMem) => cko σ_2 a0 [3] (cko σ_2 a0 [3] (vl (si σ_2 a0 29 ((gi σ_2 a0 29) - 1)) (fun σ_3 => some (x1, σ_3))))) (fun k => f_X3_adds_21 a0 x1 k FU σ_1 0)))))
abbrev P_X3_adds (l : Launch) (d n0 s0 : Nat) : vX → Prop := vMP l yX3_adds cX3_adds 3 (some .int) d n0 s0
theorem w_X3_adds_21 {l : Launch} {d n0 s0 : Nat} (hd : 0 ≤ d) (a0 : Nat) (x1 : Int32) (k : vMem → Option (Int32 × vMem)) (hk : ∀ (σ_2 : vMem), V (P_X3_adds l d n0 s0) (vEmb eI) σ_2 49 [some (.ref a0), some (.int x1), none] [] (k σ_2)) : ∀ (n : Nat) (σ_4 : vMem) (v2 : Int32), V (P_X3_adds l d n0 s0) (vEmb eI) σ_4 21 [some (.ref a0), some (.int x1), some (.int v2)] [] (f_X3_adds_21 a0 x1 k n σ_4 v2) := by
  have hC : vPx (P_X3_adds l d n0 s0) cX3_adds 3 "NobodyBeenAftModel" (some .int) d := vMP_cx
  intro n
  induction n with
  | zero =>
    intro σ_4 v2
    exact V_none
  | succ n ih =>
    intro σ_4 v2
    refine V_eq (f_X3_adds_21.eq_2 ..) ?_
    refine V_iload_n hC dX3_adds_21 rfl ?_
    refine V_sipush (v := 855) hC dX3_adds_22 rfl ?_
    refine V_icmp_ge (tgt := 49) hC dX3_adds_25 (by decide) ?_ ?_
    · refine V_clr [2] (ls' := [some (.ref a0), some (.int x1), none]) rfl ?_
      exact hk σ_4
    · refine V_aload_n hC dX3_adds_28 rfl ?_
      refine g_X3_58 hC dX3_adds_29 (fun b => ?_)
      refine V_iload_n hC dX3_adds_32 rfl ?_
      refine V_aload_n hC dX3_adds_33 rfl ?_
      refine g_X3_58 hC dX3_adds_34 (fun b_1 => ?_)
      refine V_iload_n hC dX3_adds_37 rfl ?_
      refine V_bipush (v := 57) hC dX3_adds_38 rfl ?_
      refine V_iadd hC dX3_adds_40 ?_
      refine V_iald hC dX3_adds_41 ?_
      refine V_iast hC dX3_adds_42 (fun σ_5 => ?_)
      refine V_iincL (v := v2 + 1) (ls' := fun v2_1 => [some (.ref a0), some (.int x1), some (.int v2_1)]) hC dX3_adds_43 rfl (by decide) rfl rfl (fun _ => rfl) (fun v2_1 => ?_)
      refine V_goto (tgt := 21) hC dX3_adds_46 (by decide) ?_
      exact ih σ_5 v2_1
theorem w_X3_adds {l : Launch} {d n0 s0 : Nat} (hd : 0 ≤ d) (σ : vMem) (a0 : Nat) (x1 : Int32) : V (P_X3_adds l d n0 s0) (vEmb eI) σ 0 [some (.ref a0), some (.int x1), none] [] (f_X3_adds σ a0 x1) := by
  have hC : vPx (P_X3_adds l d n0 s0) cX3_adds 3 "NobodyBeenAftModel" (some .int) d := vMP_cx
  refine V_eq (f_X3_adds.eq_1 ..) ?_
  refine V_aload_n hC dX3_adds_0 rfl ?_
  refine V_dup hC dX3_adds_1 rfl ?_
  refine g_X3_210 hC dX3_adds_2 ?_
  refine V_iconst (v := 1) hC dX3_adds_5 rfl ?_
  refine V_iadd hC dX3_adds_6 ?_
  refine p_X3_210 hC dX3_adds_7 (fun σ_1 => ?_)
  refine V_aload_n hC dX3_adds_10 rfl ?_
  refine g_X3_210 hC dX3_adds_11 ?_
  refine V_bipush (v := 15) hC dX3_adds_14 rfl ?_
  refine V_icmp_le (tgt := 59) hC dX3_adds_16 (by decide) ?_ ?_
  · refine V_iload_n hC dX3_adds_59 rfl ?_
    exact V_ireturn dX3_adds_60 rfl rfl
  · refine V_iconst (v := 0) hC dX3_adds_19 rfl ?_
    refine V_istore_n (ls' := [some (.ref a0), some (.int x1), some (.int 0)]) hC dX3_adds_20 (by decide) rfl rfl ?_
    refine V_let (B := fun k => ∀ (σ_2 : vMem), V (P_X3_adds l d n0 s0) (vEmb eI) σ_2 49 [some (.ref a0), some (.int x1), none] [] (k σ_2)) ?_ ?_
    · intro σ_2
      refine V_aload_n hC dX3_adds_49 rfl ?_
      refine V_dup hC dX3_adds_50 rfl ?_
      refine g_X3_210 hC dX3_adds_51 ?_
      refine V_iconst (v := 1) hC dX3_adds_54 rfl ?_
      refine V_isub hC dX3_adds_55 ?_
      refine p_X3_210 hC dX3_adds_56 (fun σ_3 => ?_)
      refine V_iload_n hC dX3_adds_59 rfl ?_
      exact V_ireturn dX3_adds_60 rfl rfl
    · intro k hk
      exact (w_X3_adds_21 hd a0 x1 k hk) FU σ_1 0
theorem c_X3_adds {l : Launch} {d : Nat} (hd : 0 ≤ d) {σ : vMem} {a0 : Nat} {x1 : Int32} {r : Int32 × vMem} (h : f_X3_adds σ a0 x1 = some r) : vOk l yX3_adds cX3_adds 3 (some .int) d [.ref a0, .int x1] σ (.inl ((eI).1 r, (eI).2 r)) := V_method (em := eI) [some (.ref a0), some (.int x1), none] (by decide +kernel) rfl (Nat.le_of_ble_eq_true rfl) (w_X3_adds hd σ a0 x1) h
/-! NobodyBeenAftModel.counts(I)I -/
def f_X3_counts (σ : vMem) (a0 : Nat) (x1 : Int32) : Option (Int32 × vMem) := if 0 ≤ x1 then (cko σ a0 [3] (bd (f_X3_adds σ a0 x1) (fun r σ_1 => some (r, σ_1)))) else some (x1, σ)
abbrev P_X3_counts (l : Launch) (d n0 s0 : Nat) : vX → Prop := vMP l yX3_counts cX3_counts 2 (some .int) d n0 s0
theorem w_X3_counts {l : Launch} {d n0 s0 : Nat} (hd : 1 ≤ d) (σ : vMem) (a0 : Nat) (x1 : Int32) : V (P_X3_counts l d n0 s0) (vEmb eI) σ 0 [some (.ref a0), some (.int x1)] [] (f_X3_counts σ a0 x1) := by
  have hC : vPx (P_X3_counts l d n0 s0) cX3_counts 2 "NobodyBeenAftModel" (some .int) d := vMP_cx
  refine V_eq (f_X3_counts.eq_1 ..) ?_
  refine V_iload_n hC dX3_counts_0 rfl ?_
  refine V_if_ge (tgt := 8) hC dX3_counts_1 (by decide) ?_ ?_
  · refine V_aload_n hC dX3_counts_8 rfl ?_
    refine V_iload_n hC dX3_counts_9 rfl ?_
    refine V_cko (fun hm => V_callV_I (c := 3) (As := [.int x1]) (rest := []) (d' := 0) hC dX3_counts_10 1 (lw_V q1653 q1655 qs53 q87 q1656) (by decide +kernel) (List.mem_singleton.mp hm) (by decide) (by decide) rfl rfl rfl (Nat.le_of_ble_eq_true rfl) (Nat.le_trans (by decide) hd) (by decide) vMP_l (fun _ h => c_X3_adds (Nat.le_refl _) h) (fun r σ_1 => ?_))
    exact V_ireturn dX3_counts_13 rfl rfl
  · refine V_iload_n hC dX3_counts_4 rfl ?_
    refine V_goto (tgt := 13) hC dX3_counts_5 (by decide) ?_
    exact V_ireturn dX3_counts_13 rfl rfl
theorem c_X3_counts {l : Launch} {d : Nat} (hd : 1 ≤ d) {σ : vMem} {a0 : Nat} {x1 : Int32} {r : Int32 × vMem} (h : f_X3_counts σ a0 x1 = some r) : vOk l yX3_counts cX3_counts 2 (some .int) d [.ref a0, .int x1] σ (.inl ((eI).1 r, (eI).2 r)) := V_method (em := eI) [some (.ref a0), some (.int x1)] (by decide +kernel) rfl (Nat.le_of_ble_eq_true rfl) (w_X3_counts hd σ a0 x1) h
