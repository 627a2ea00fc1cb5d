/-! MACHINE HALF, printed by gen/build.py: terms (f_), walks (w_), contracts (c_) -/
set_option maxRecDepth 100000
/-! the law -/
def f_L_law_23 (L : Nat) (xs : Nat → Int32) (b : Nat) (b_1 : Nat) (b_2 : Nat) : Nat → vMem → Int32 → Option (Int32 × vMem)
  | 0, _, _ => none
  | n + 1, σ_6, v4 => if ((Int32.ofNat L) - 5) < v4 then (some (1, σ_6)) else cks2 L v4 (vl (fun (σ_7 : vMem) => vl (v4 + 5) (fun v4_1 => f_L_law_23 L xs b b_1 b_2 n σ_7 v4_1)) (fun k => if ((xs (Int32.toNatClampNeg v4)) &&& 63) = 0 then (cks2 L (v4 + 1) (cko σ_6 b [1] (bd (f_X1_sign σ_6 b (xs (Int32.toNatClampNeg (v4 + 1)))) (fun r σ_8 => cks2 L (v4 + 1) (cko σ_8 b_1 [3] (bd (f_X3_sign σ_8 b_1 (xs (Int32.toNatClampNeg (v4 + 1)))) (fun r_1 σ_9 => if r = r_1 then (k σ_9) else some (0, σ_9)))))))) else if ((xs (Int32.toNatClampNeg v4)) &&& 63) = 1 then (cks2 L (v4 + 1) (cko σ_6 b [1] (bd (f_X1_end σ_6 b (xs (Int32.toNatClampNeg (v4 + 1)))) (fun r_2 σ_10 => cks2 L (v4 + 1) (cko σ_10 b_1 [3] (bd (f_X3_end σ_10 b_1 (xs (Int32.toNatClampNeg (v4 + 1)))) (fun r_3 σ_11 => if r_2 = r_3 then (k σ_11) else some (0, σ_11)))))))) else if ((xs (Int32.toNatClampNeg v4)) &&& 63) = 2 then (cko σ_6 b [1] (bd (f_X1_ship σ_6 b) (fun r_4 σ_12 => cko σ_12 b_1 [3] (bd (f_X3_ship σ_12 b_1) (fun r_5 σ_13 => if r_4 = r_5 then (k σ_13) else some (0, σ_13)))))) else if ((xs (Int32.toNatClampNeg v4)) &&& 63) = 3 then (cko σ_6 b [1] (bd (f_X1_rocks σ_6 b) (fun r_6 σ_14 => cko σ_14 b_1 [3] (bd (f_X3_rocks σ_14 b_1) (fun r_7 σ_15 => if r_6 = r_7 then (k σ_15) else some (0, σ_15)))))) else if ((xs (Int32.toNatClampNeg v4)) &&& 63) = 4 then (cko σ_6 b [1] (bd (f_X1_messes σ_6 b) (fun r_8 σ_16 => cko σ_16 b_1 [3] (bd (f_X3_messes σ_16 b_1) (fun r_9 σ_17 => if r_8 = r_9 then (k σ_17) else some (0, σ_17)))))) else if ((xs (Int32.toNatClampNeg v4)) &&& 63) = 5 then (cko σ_6 b [1] (bd (f_X1_rule σ_6 b) (fun r_10 σ_18 => cko σ_18 b_1 [3] (bd (f_X3_rule σ_18 b_1) (fun r_11 σ_19 => if r_10 = r_11 then (k σ_19) else some (0, σ_19)))))) else if ((xs (Int32.toNatClampNeg v4)) &&& 63) = 6 then (cks2 L (v4 + 1) (cks2 L (v4 + 2) (bd (f_X0_post σ_6 b (xs (Int32.toNatClampNeg (v4 + 1))) (xs (Int32.toNatClampNeg (v4 + 2))) b_2) (fun r_12 σ_20 => cks2 L (v4 + 1) (cks2 L (v4 + 2) (cko σ_20 b_1 [3] (bd (f_X3_post σ_20 b_1 (xs (Int32.toNatClampNeg (v4 + 1))) (xs (Int32.toNatClampNeg (v4 + 2)))) (fun r_13 σ_21 => cko σ_21 b_1 [3] (bp (f_X3_thrown σ_21 b_1) (fun r_14 => if r_14 = r_12 then (vl (k σ_21) (fun k_1 => if ¬ r_12 = 0 then k_1 else cka σ_21 b_2 106 0 (if (lg_cmp (gl σ_21 b_2 (Int32.toNatClampNeg 0)) (Int32.toInt64 r_13)) = 0 then k_1 else some (0, σ_21)))) else some (0, σ_21))))))))))) else if ((xs (Int32.toNatClampNeg v4)) &&& 63) = 7 then (cks2 L (v4 + 1) (cks2 L (v4 + 2) (bd (f_X0_rock σ_6 b (xs (Int32.toNatClampNeg (v4 + 1))) (xs (Int32.toNatClampNeg (v4 + 2))) b_2) (fun r_15 σ_22 => cks2 L (v4 + 1) (cks2 L (v4 + 2) (cko σ_22 b_1 [3] (bd (f_X3_rock σ_22 b_1 (xs (Int32.toNatClampNeg (v4 + 1))) (xs (Int32.toNatClampNeg (v4 + 2)))) (fun r_16 σ_23 => cko σ_23 b_1 [3] (bp (f_X3_thrown σ_23 b_1) (fun r_17 => if r_17 = r_15 then (vl (k σ_23) (fun k_2 => if ¬ r_15 = 0 then k_2 else cka σ_23 b_2 106 0 (if (lg_cmp (gl σ_23 b_2 (Int32.toNatClampNeg 0)) (Int32.toInt64 r_16)) = 0 then k_2 else some (0, σ_23)))) else some (0, σ_23))))))))))) else if ((xs (Int32.toNatClampNeg v4)) &&& 63) = 8 then (cks2 L (v4 + 1) (cks2 L (v4 + 2) (bd (f_X0_mess σ_6 b (xs (Int32.toNatClampNeg (v4 + 1))) (xs (Int32.toNatClampNeg (v4 + 2))) b_2) (fun r_18 σ_24 => cks2 L (v4 + 1) (cks2 L (v4 + 2) (cko σ_24 b_1 [3] (bd (f_X3_mess σ_24 b_1 (xs (Int32.toNatClampNeg (v4 + 1))) (xs (Int32.toNatClampNeg (v4 + 2)))) (fun r_19 σ_25 => cko σ_25 b_1 [3] (bp (f_X3_thrown σ_25 b_1) (fun r_20 => if r_20 = r_18 then (vl (k σ_25) (fun k_3 => if ¬ r_18 = 0 then k_3 else cka σ_25 b_2 106 0 (if (lg_cmp (gl σ_25 b_2 (Int32.toNatClampNeg 0)) (Int32.toInt64 r_19)) = 0 then k_3 else some (0, σ_25)))) else some (0, σ_25))))))))))) else if ((xs (Int32.toNatClampNeg v4)) &&& 63) = 9 then (cks2 L (v4 + 1) (cks2 L (v4 + 2) (bd (f_X0_way σ_6 b (xs (Int32.toNatClampNeg (v4 + 1))) (xs (Int32.toNatClampNeg (v4 + 2))) b_2) (fun r_21 σ_26 => cks2 L (v4 + 1) (cks2 L (v4 + 2) (cko σ_26 b_1 [3] (bd (f_X3_way σ_26 b_1 (xs (Int32.toNatClampNeg (v4 + 1))) (xs (Int32.toNatClampNeg (v4 + 2)))) (fun r_22 σ_27 => cko σ_27 b_1 [3] (bp (f_X3_thrown σ_27 b_1) (fun r_23 => if r_23 = r_21 then (vl (k σ_27) (fun k_4 => if ¬ r_21 = 0 then k_4 else cka σ_27 b_2 106 0 (if (lg_cmp (gl σ_27 b_2 (Int32.toNatClampNeg 0)) (Int32.toInt64 r_22)) = 0 then k_4 else some (0, σ_27)))) else some (0, σ_27))))))))))) else if ((xs (Int32.toNatClampNeg v4)) &&& 63) = 10 then (cks2 L (v4 + 1) (cks2 L (v4 + 2) (cks2 L (v4 + 3) (cks2 L (v4 + 4) (cko σ_6 b [1] (bd (f_X1_sheet σ_6 b (xs (Int32.toNatClampNeg (v4 + 1))) (xs (Int32.toNatClampNeg (v4 + 2))) (xs (Int32.toNatClampNeg (v4 + 3))) (xs (Int32.toNatClampNeg (v4 + 4)))) (fun r_24 σ_28 => cks2 L (v4 + 1) (cks2 L (v4 + 2) (cks2 L (v4 + 3) (cks2 L (v4 + 4) (cko σ_28 b_1 [3] (bd (f_X3_sheet σ_28 b_1 (xs (Int32.toNatClampNeg (v4 + 1))) (xs (Int32.toNatClampNeg (v4 + 2))) (xs (Int32.toNatClampNeg (v4 + 3))) (xs (Int32.toNatClampNeg (v4 + 4)))) (fun r_25 σ_29 => if r_24 = r_25 then (k σ_29) else some (0, σ_29)))))))))))))) else if ((xs (Int32.toNatClampNeg v4)) &&& 63) = 11 then (cko σ_6 b [1] (bd (f_X1_delay σ_6 b) (fun r_26 σ_30 => cko σ_30 b_1 [3] (bd (f_X3_delay σ_30 b_1) (fun r_27 σ_31 => if r_26 = r_27 then (k σ_31) else some (0, σ_31)))))) else if ((xs (Int32.toNatClampNeg v4)) &&& 63) = 12 then (cks2 L (v4 + 1) (cko σ_6 b [1] (bd (f_X1_order σ_6 b (xs (Int32.toNatClampNeg (v4 + 1)))) (fun r_28 σ_32 => cks2 L (v4 + 1) (cko σ_32 b_1 [3] (bd (f_X3_order σ_32 b_1 (xs (Int32.toNatClampNeg (v4 + 1)))) (fun r_29 σ_33 => if r_28 = r_29 then (k σ_33) else some (0, σ_33)))))))) else if ((xs (Int32.toNatClampNeg v4)) &&& 63) = 13 then (cks2 L (v4 + 1) (cks2 L (v4 + 2) (cks2 L (v4 + 3) (cko σ_6 b [1] (bd (f_X1_pass σ_6 b (xs (Int32.toNatClampNeg (v4 + 1))) (xs (Int32.toNatClampNeg (v4 + 2))) (xs (Int32.toNatClampNeg (v4 + 3)))) (fun r_30 σ_34 => cks2 L (v4 + 1) (cks2 L (v4 + 2) (cks2 L (v4 + 3) (cko σ_34 b_1 [3] (bd (f_X3_pass σ_34 b_1 (xs (Int32.toNatClampNeg (v4 + 1))) (xs (Int32.toNatClampNeg (v4 + 2))) (xs (Int32.toNatClampNeg (v4 + 3)))) (fun r_31 σ_35 => if r_30 = r_31 then (k σ_35) else some (0, σ_35)))))))))))) else if ((xs (Int32.toNatClampNeg v4)) &&& 63) = 14 then (cks2 L (v4 + 1) (cks2 L (v4 + 2) (cko σ_6 b [1] (bd (f_X1_cook σ_6 b (xs (Int32.toNatClampNeg (v4 + 1))) (xs (Int32.toNatClampNeg (v4 + 2)))) (fun r_32 σ_36 => cks2 L (v4 + 1) (cks2 L (v4 + 2) (cko σ_36 b_1 [3] (bd (f_X3_cook σ_36 b_1 (xs (Int32.toNatClampNeg (v4 + 1))) (xs (Int32.toNatClampNeg (v4 + 2)))) (fun r_33 σ_37 => if r_32 = r_33 then (k σ_37) else some (0, σ_37)))))))))) else if ((xs (Int32.toNatClampNeg v4)) &&& 63) = 15 then (cks2 L (v4 + 1) (cko σ_6 b [1] (bd (f_X1_steps σ_6 b (xs (Int32.toNatClampNeg (v4 + 1)))) (fun r_34 σ_38 => cks2 L (v4 + 1) (cko σ_38 b_1 [3] (bd (f_X3_steps σ_38 b_1 (xs (Int32.toNatClampNeg (v4 + 1)))) (fun r_35 σ_39 => if r_34 = r_35 then (k σ_39) else some (0, σ_39)))))))) else if ((xs (Int32.toNatClampNeg v4)) &&& 63) = 16 then (cko σ_6 b [1] (bd (f_X1_voyage σ_6 b) (fun r_36 σ_40 => cko σ_40 b_1 [3] (bd (f_X3_voyage σ_40 b_1) (fun r_37 σ_41 => if r_36 = r_37 then (k σ_41) else some (0, σ_41)))))) else if ((xs (Int32.toNatClampNeg v4)) &&& 63) = 17 then (cko σ_6 b [1] (bd (f_X1_undo σ_6 b) (fun r_38 σ_42 => cko σ_42 b_1 [3] (bd (f_X3_undo σ_42 b_1) (fun r_39 σ_43 => if r_38 = r_39 then (k σ_43) else some (0, σ_43)))))) else if ((xs (Int32.toNatClampNeg v4)) &&& 63) = 18 then (cks2 L (v4 + 1) (cko σ_6 b [1] (bd (f_X1_lane σ_6 b (xs (Int32.toNatClampNeg (v4 + 1)))) (fun r_40 σ_44 => cks2 L (v4 + 1) (cko σ_44 b_1 [3] (bd (f_X3_lane σ_44 b_1 (xs (Int32.toNatClampNeg (v4 + 1)))) (fun r_41 σ_45 => if r_40 = r_41 then (k σ_45) else some (0, σ_45)))))))) else if ((xs (Int32.toNatClampNeg v4)) &&& 63) = 19 then (cko σ_6 b [1] (bd (f_X1_strikes σ_6 b) (fun r_42 σ_46 => cko σ_46 b_1 [3] (bd (f_X3_strikes σ_46 b_1) (fun r_43 σ_47 => if r_42 = r_43 then (k σ_47) else some (0, σ_47)))))) else if ((xs (Int32.toNatClampNeg v4)) &&& 63) = 20 then (cko σ_6 b [1] (bd (f_X1_clears σ_6 b) (fun r_44 σ_48 => cko σ_48 b_1 [3] (bd (f_X3_clears σ_48 b_1) (fun r_45 σ_49 => if r_44 = r_45 then (k σ_49) else some (0, σ_49)))))) else if ((xs (Int32.toNatClampNeg v4)) &&& 63) = 21 then (cks2 L (v4 + 1) (cko σ_6 b [1] (bd (f_X1_plan σ_6 b (xs (Int32.toNatClampNeg (v4 + 1)))) (fun r_46 σ_50 => cks2 L (v4 + 1) (cko σ_50 b_1 [3] (bd (f_X3_plan σ_50 b_1 (xs (Int32.toNatClampNeg (v4 + 1)))) (fun r_47 σ_51 => if r_46 = r_47 then (k σ_51) else some (0, σ_51)))))))) else if ((xs (Int32.toNatClampNeg v4)) &&& 63) = 22 then (cks2 L (v4 + 1) (cko σ_6 b [1] (bd (f_X1_latest σ_6 b (xs (Int32.toNatClampNeg (v4 + 1)))) (fun r_48 σ_52 => cks2 L (v4 + 1) (cko σ_52 b_1 [3] (bd (f_X3_latest σ_52 b_1 (xs (Int32.toNatClampNeg (v4 + 1)))) (fun r_49 σ_53 => if r_48 = r_49 then (k σ_53) else some (0, σ_53)))))))) else if ((xs (Int32.toNatClampNeg v4)) &&& 63) = 23 then (cks2 L (v4 + 1) (cko σ_6 b [1] (bd (f_X1_lanes σ_6 b (xs (Int32.toNatClampNeg (v4 + 1)))) (fun r_50 σ_54 => cks2 L (v4 + 1) (cko σ_54 b_1 [3] (bd (f_X3_lanes σ_54 b_1 (xs (Int32.toNatClampNeg (v4 + 1)))) (fun r_51 σ_55 => if r_50 = r_51 then (k σ_55) else some (0, σ_55)))))))) else if ((xs (Int32.toNatClampNeg v4)) &&& 63) = 24 then (cks2 L (v4 + 1) (cko σ_6 b [1] (bd (f_X1_safest σ_6 b (xs (Int32.toNatClampNeg (v4 + 1)))) (fun r_52 σ_56 => cks2 L (v4 + 1) (cko σ_56 b_1 [3] (bd (f_X3_safest σ_56 b_1 (xs (Int32.toNatClampNeg (v4 + 1)))) (fun r_53 σ_57 => if r_52 = r_53 then (k σ_57) else some (0, σ_57)))))))) else if ((xs (Int32.toNatClampNeg v4)) &&& 63) = 25 then (cks2 L (v4 + 1) (cko σ_6 b [1] (bd (f_X1_late σ_6 b (xs (Int32.toNatClampNeg (v4 + 1)))) (fun r_54 σ_58 => cks2 L (v4 + 1) (cko σ_58 b_1 [3] (bd (f_X3_late σ_58 b_1 (xs (Int32.toNatClampNeg (v4 + 1)))) (fun r_55 σ_59 => if r_54 = r_55 then (k σ_59) else some (0, σ_59)))))))) else if ((xs (Int32.toNatClampNeg v4)) &&& 63) = 26 then (cks2 L (v4 + 1) (cko σ_6 b [1] (bd (f_X1_comes σ_6 b (xs (Int32.toNatClampNeg (v4 + 1)))) (fun r_56 σ_60 => cks2 L (v4 + 1) (cko σ_60 b_1 [3] (bd (f_X3_comes σ_60 b_1 (xs (Int32.toNatClampNeg (v4 + 1)))) (fun r_57 σ_61 => if r_56 = r_57 then (k σ_61) else some (0, σ_61)))))))) else if ((xs (Int32.toNatClampNeg v4)) &&& 63) = 27 then (cks2 L (v4 + 1) (cko σ_6 b [1] (bd (f_X1_relay σ_6 b (xs (Int32.toNatClampNeg (v4 + 1)))) (fun r_58 σ_62 => cks2 L (v4 + 1) (cko σ_62 b_1 [3] (bd (f_X3_relay σ_62 b_1 (xs (Int32.toNatClampNeg (v4 + 1)))) (fun r_59 σ_63 => if r_58 = r_59 then (k σ_63) else some (0, σ_63)))))))) else if ((xs (Int32.toNatClampNeg v4)) &&& 63) = 28 then (cks2 L (v4 + 1) (cko σ_6 b [1] (bp (f_X1_fewest σ_6 b (xs (Int32.toNatClampNeg (v4 + 1)))) (fun r_60 => cks2 L (v4 + 1) (cko σ_6 b_1 [3] (bd (f_X3_fewest σ_6 b_1 (xs (Int32.toNatClampNeg (v4 + 1)))) (fun r_61 σ_64 => if r_60 = r_61 then (k σ_64) else some (0, σ_64)))))))) else if ((xs (Int32.toNatClampNeg v4)) &&& 63) = 29 then (cks2 L (v4 + 1) (cks2 L (v4 + 2) (cko σ_6 b [1] (bd (f_X1_word σ_6 b (xs (Int32.toNatClampNeg (v4 + 1))) (xs (Int32.toNatClampNeg (v4 + 2)))) (fun r_62 σ_65 => cks2 L (v4 + 1) (cks2 L (v4 + 2) (cko σ_65 b_1 [3] (bd (f_X3_word σ_65 b_1 (xs (Int32.toNatClampNeg (v4 + 1))) (xs (Int32.toNatClampNeg (v4 + 2)))) (fun r_63 σ_66 => if r_62 = r_63 then (k σ_66) else some (0, σ_66)))))))))) else if ((xs (Int32.toNatClampNeg v4)) &&& 63) = 30 then (cks2 L (v4 + 1) (cks2 L (v4 + 2) (cko σ_6 b [1] (bd (f_X1_survives σ_6 b (xs (Int32.toNatClampNeg (v4 + 1))) (xs (Int32.toNatClampNeg (v4 + 2)))) (fun r_64 σ_67 => cks2 L (v4 + 1) (cks2 L (v4 + 2) (cko σ_67 b_1 [3] (bd (f_X3_survives σ_67 b_1 (xs (Int32.toNatClampNeg (v4 + 1))) (xs (Int32.toNatClampNeg (v4 + 2)))) (fun r_65 σ_68 => if r_64 = r_65 then (k σ_68) else some (0, σ_68)))))))))) else if ((xs (Int32.toNatClampNeg v4)) &&& 63) = 31 then (cks2 L (v4 + 1) (cko σ_6 b [1] (bd (f_X1_lives σ_6 b (xs (Int32.toNatClampNeg (v4 + 1)))) (fun r_66 σ_69 => cks2 L (v4 + 1) (cko σ_69 b_1 [3] (bd (f_X3_lives σ_69 b_1 (xs (Int32.toNatClampNeg (v4 + 1)))) (fun r_67 σ_70 => if r_66 = r_67 then (k σ_70) else some (0, σ_70)))))))) else if ((xs (Int32.toNatClampNeg v4)) &&& 63) = 32 then (cks2 L (v4 + 1) (cko σ_6 b [1] (bd (f_X1_shares σ_6 b (xs (Int32.toNatClampNeg (v4 + 1)))) (fun r_68 σ_71 => cks2 L (v4 + 1) (cko σ_71 b_1 [3] (bd (f_X3_shares σ_71 b_1 (xs (Int32.toNatClampNeg (v4 + 1)))) (fun r_69 σ_72 => if r_68 = r_69 then (k σ_72) else some (0, σ_72)))))))) else if ((xs (Int32.toNatClampNeg v4)) &&& 63) = 33 then (cks2 L (v4 + 1) (cko σ_6 b [1] (bd (f_X1_fast σ_6 b (xs (Int32.toNatClampNeg (v4 + 1)))) (fun r_70 σ_73 => cks2 L (v4 + 1) (cko σ_73 b_1 [3] (bd (f_X3_fast σ_73 b_1 (xs (Int32.toNatClampNeg (v4 + 1)))) (fun r_71 σ_74 => if r_70 = r_71 then (k σ_74) else some (0, σ_74)))))))) else if ((xs (Int32.toNatClampNeg v4)) &&& 63) = 34 then (cks2 L (v4 + 1) (cks2 L (v4 + 2) (cko σ_6 b [1] (bd (f_X1_seen σ_6 b (xs (Int32.toNatClampNeg (v4 + 1))) (xs (Int32.toNatClampNeg (v4 + 2)))) (fun r_72 σ_75 => cks2 L (v4 + 1) (cks2 L (v4 + 2) (cko σ_75 b_1 [3] (bd (f_X3_seen σ_75 b_1 (xs (Int32.toNatClampNeg (v4 + 1))) (xs (Int32.toNatClampNeg (v4 + 2)))) (fun r_73 σ_76 => if r_72 = r_73 then (k σ_76) else some (0, σ_76)))))))))) else if ((xs (Int32.toNatClampNeg v4)) &&& 63) = 35 then (cko σ_6 b [1] (bd (f_X1_forget σ_6 b) (fun r_74 σ_77 => cko σ_77 b_1 [3] (bd (f_X3_forget σ_77 b_1) (fun r_75 σ_78 => if r_74 = r_75 then (k σ_78) else some (0, σ_78)))))) else if ((xs (Int32.toNatClampNeg v4)) &&& 63) = 36 then (cko σ_6 b [1] (bd (f_X1_ordered σ_6 b) (fun r_76 σ_79 => cko σ_79 b_1 [3] (bd (f_X3_ordered σ_79 b_1) (fun r_77 σ_80 => if r_76 = r_77 then (k σ_80) else some (0, σ_80)))))) else if ((xs (Int32.toNatClampNeg v4)) &&& 63) = 37 then (cko σ_6 b [1] (bd (f_X1_unsure σ_6 b) (fun r_78 σ_81 => cko σ_81 b_1 [3] (bd (f_X3_unsure σ_81 b_1) (fun r_79 σ_82 => if r_78 = r_79 then (k σ_82) else some (0, σ_82)))))) else if ((xs (Int32.toNatClampNeg v4)) &&& 63) = 38 then (cks2 L (v4 + 1) (cks2 L (v4 + 2) (cko σ_6 b [1] (bd (f_X1_boy σ_6 b (xs (Int32.toNatClampNeg (v4 + 1))) (xs (Int32.toNatClampNeg (v4 + 2)))) (fun r_80 σ_83 => cks2 L (v4 + 1) (cks2 L (v4 + 2) (cko σ_83 b_1 [3] (bd (f_X3_boy σ_83 b_1 (xs (Int32.toNatClampNeg (v4 + 1))) (xs (Int32.toNatClampNeg (v4 + 2)))) (fun r_81 σ_84 => if r_80 = r_81 then (k σ_84) else some (0, σ_84)))))))))) else if ((xs (Int32.toNatClampNeg v4)) &&& 63) = 39 then (cks2 L (v4 + 1) (cko σ_6 b [1] (bd (f_X1_meets σ_6 b (xs (Int32.toNatClampNeg (v4 + 1)))) (fun r_82 σ_85 => cks2 L (v4 + 1) (cko σ_85 b_1 [3] (bd (f_X3_meets σ_85 b_1 (xs (Int32.toNatClampNeg (v4 + 1)))) (fun r_83 σ_86 => if r_82 = r_83 then (k σ_86) else some (0, σ_86)))))))) else if ((xs (Int32.toNatClampNeg v4)) &&& 63) = 40 then (cks2 L (v4 + 1) (cks2 L (v4 + 2) (cko σ_6 b [1] (bd (f_X1_knows σ_6 b (xs (Int32.toNatClampNeg (v4 + 1))) (xs (Int32.toNatClampNeg (v4 + 2)))) (fun r_84 σ_87 => cks2 L (v4 + 1) (cks2 L (v4 + 2) (cko σ_87 b_1 [3] (bd (f_X3_knows σ_87 b_1 (xs (Int32.toNatClampNeg (v4 + 1))) (xs (Int32.toNatClampNeg (v4 + 2)))) (fun r_85 σ_88 => if r_84 = r_85 then (k σ_88) else some (0, σ_88)))))))))) else if ((xs (Int32.toNatClampNeg v4)) &&& 63) = 41 then (cks2 L (v4 + 1) (cks2 L (v4 + 2) (cks2 L (v4 + 3) (cko σ_6 b [1] (bd (f_X1_mutiny σ_6 b (xs (Int32.toNatClampNeg (v4 + 1))) (xs (Int32.toNatClampNeg (v4 + 2))) (xs (Int32.toNatClampNeg (v4 + 3)))) (fun r_86 σ_89 => cks2 L (v4 + 1) (cks2 L (v4 + 2) (cks2 L (v4 + 3) (cko σ_89 b_1 [3] (bd (f_X3_mutiny σ_89 b_1 (xs (Int32.toNatClampNeg (v4 + 1))) (xs (Int32.toNatClampNeg (v4 + 2))) (xs (Int32.toNatClampNeg (v4 + 3)))) (fun r_87 σ_90 => if r_86 = r_87 then (k σ_90) else some (0, σ_90)))))))))))) else if ((xs (Int32.toNatClampNeg v4)) &&& 63) = 42 then (cks2 L (v4 + 1) (cks2 L (v4 + 2) (cks2 L (v4 + 3) (cko σ_6 b [1] (bd (f_X1_chance σ_6 b (xs (Int32.toNatClampNeg (v4 + 1))) (xs (Int32.toNatClampNeg (v4 + 2))) (xs (Int32.toNatClampNeg (v4 + 3)))) (fun r_88 σ_91 => cks2 L (v4 + 1) (cks2 L (v4 + 2) (cks2 L (v4 + 3) (cko σ_91 b_1 [3] (bd (f_X3_chance σ_91 b_1 (xs (Int32.toNatClampNeg (v4 + 1))) (xs (Int32.toNatClampNeg (v4 + 2))) (xs (Int32.toNatClampNeg (v4 + 3)))) (fun r_89 σ_92 => if r_88 = r_89 then (k σ_92) else some (0, σ_92)))))))))))) else if ((xs (Int32.toNatClampNeg v4)) &&& 63) = 43 then (cks2 L (v4 + 1) (cks2 L (v4 + 2) (cko σ_6 b [1] (bd (f_X1_voyages σ_6 b (xs (Int32.toNatClampNeg (v4 + 1))) (xs (Int32.toNatClampNeg (v4 + 2)))) (fun r_90 σ_93 => cks2 L (v4 + 1) (cks2 L (v4 + 2) (cko σ_93 b_1 [3] (bd (f_X3_voyages σ_93 b_1 (xs (Int32.toNatClampNeg (v4 + 1))) (xs (Int32.toNatClampNeg (v4 + 2)))) (fun r_91 σ_94 => if r_90 = r_91 then (k σ_94) else some (0, σ_94)))))))))) else if ((xs (Int32.toNatClampNeg v4)) &&& 63) = 44 then (cks2 L (v4 + 1) (cko σ_6 b [1] (bd (f_X1_keep σ_6 b (xs (Int32.toNatClampNeg (v4 + 1)))) (fun r_92 σ_95 => cks2 L (v4 + 1) (cko σ_95 b_1 [3] (bd (f_X3_keep σ_95 b_1 (xs (Int32.toNatClampNeg (v4 + 1)))) (fun r_93 σ_96 => if r_92 = r_93 then (k σ_96) else some (0, σ_96)))))))) else if ((xs (Int32.toNatClampNeg v4)) &&& 63) = 45 then (cks2 L (v4 + 1) (cko σ_6 b [1] (bd (f_X1_again σ_6 b (xs (Int32.toNatClampNeg (v4 + 1)))) (fun r_94 σ_97 => cks2 L (v4 + 1) (cko σ_97 b_1 [3] (bd (f_X3_again σ_97 b_1 (xs (Int32.toNatClampNeg (v4 + 1)))) (fun r_95 σ_98 => if r_94 = r_95 then (k σ_98) else some (0, σ_98)))))))) else if ((xs (Int32.toNatClampNeg v4)) &&& 63) = 46 then (cks2 L (v4 + 1) (cko σ_6 b [1] (bp (f_X1_count σ_6 b (xs (Int32.toNatClampNeg (v4 + 1)))) (fun r_96 => cks2 L (v4 + 1) (cko σ_6 b_1 [3] (bd (f_X3_count σ_6 b_1 (xs (Int32.toNatClampNeg (v4 + 1)))) (fun r_97 σ_99 => if r_96 = r_97 then (k σ_99) else some (0, σ_99)))))))) else if ((xs (Int32.toNatClampNeg v4)) &&& 63) = 47 then (cks2 L (v4 + 1) (bd (f_X0_row σ_6 b (xs (Int32.toNatClampNeg (v4 + 1))) b_2) (fun r_98 σ_100 => cks2 L (v4 + 1) (cko σ_100 b_1 [3] (bd (f_X3_row σ_100 b_1 (xs (Int32.toNatClampNeg (v4 + 1)))) (fun r_99 σ_101 => cko σ_101 b_1 [3] (bp (f_X3_thrown σ_101 b_1) (fun r_100 => if r_100 = r_98 then (vl (k σ_101) (fun k_5 => if ¬ r_98 = 0 then k_5 else cka σ_101 b_2 106 0 (if (lg_cmp (gl σ_101 b_2 (Int32.toNatClampNeg 0)) r_99) = 0 then k_5 else some (0, σ_101)))) else some (0, σ_101))))))))) else k σ_6))
def f_L_law (L : Nat) (xs : Nat → Int32) (σ : vMem) : Option (Int32 × vMem) := nw σ 1 28 (fun b σ_1 => bv (f_X1_init σ_1 b) (fun σ_2 => nw σ_2 3 53 (fun b_1 σ_3 => bv (f_X3_init σ_3 b_1) (fun σ_4 => nwa σ_4 106 1 (fun b_2 σ_5 => f_L_law_23 L xs b b_1 b_2 FU σ_5 0)))))
theorem w_L_law_23 {l : Launch} {d : Nat} (hd : 614 ≤ d) (hd9 : d = 1600) (h0 : l.stackTraces = false) (L : Nat) (xs : Nat → Int32) (b : Nat) (b_1 : Nat) (b_2 : Nat)  : ∀ (n : Nat) (σ_6 : vMem) (v4 : Int32), V (vLP l L xs) (vEmb eI) σ_6 23 [some (.ref (SB + 20)), some (.ref b), some (.ref b_1), some (.ref b_2), some (.int v4), none, none, none] [] (f_L_law_23 L xs b b_1 b_2 n σ_6 v4) := by
  have hC : vPx (vLP l L xs) cL_law 8 "NobodyBeenAftLaw" (some .boolean) d := by rw [hd9]; exact vLP_cx
  intro n
  induction n with
  | zero =>
    intro σ_6 v4
    exact V_none
  | succ n ih =>
    intro σ_6 v4
    refine V_eq (f_L_law_23.eq_2 ..) ?_
    refine V_iload hC dL_law_23 rfl ?_
    refine V_aload_n hC dL_law_25 rfl ?_
    refine V_slen dL_law_26 ?_
    refine V_iconst (v := 5) hC dL_law_27 rfl ?_
    refine V_isub hC dL_law_28 ?_
    refine V_icmp_gt (tgt := 1700) hC dL_law_29 (by decide) ?_ ?_
    · refine V_iconst (v := 1) hC dL_law_1700 rfl ?_
      exact V_lret dL_law_1701 rfl
    · refine V_aload_n hC dL_law_32 rfl ?_
      refine V_iload hC dL_law_33 rfl ?_
      refine V_scrald dL_law_35 ?_
      refine V_bipush (v := 63) hC dL_law_36 rfl ?_
      refine V_iand hC dL_law_38 ?_
      refine V_let (B := fun k => ∀ (σ_7 : vMem), V (vLP l L xs) (vEmb eI) σ_7 1694 [some (.ref (SB + 20)), some (.ref b), some (.ref b_1), some (.ref b_2), some (.int v4), none, none, none] [] (k σ_7)) ?_ ?_
      · intro σ_7
        refine V_iincL (v := v4 + 5) (ls' := fun v4_1 => [some (.ref (SB + 20)), some (.ref b), some (.ref b_1), some (.ref b_2), some (.int v4_1), none, none, none]) hC dL_law_1694 rfl (by decide) rfl rfl (fun _ => rfl) (fun v4_1 => ?_)
        refine V_goto (tgt := 23) hC dL_law_1697 (by decide) ?_
        exact ih σ_7 v4_1
      · intro k hk
        refine V_if (fun hx => ?_) (fun h_0 => ?_)
        · refine V_tin 0 (off := 205) (tgt := 244) hC dL_law_39 hx (by decide) (by decide) (by decide) (by decide) ?_
          refine V_aload_n hC dL_law_244 rfl ?_
          refine V_aload_n hC dL_law_245 rfl ?_
          refine V_iload hC dL_law_246 rfl ?_
          refine V_iconst (v := 1) hC dL_law_248 rfl ?_
          refine V_iadd hC dL_law_249 ?_
          refine V_scrald dL_law_250 ?_
          refine V_cko (fun hm => V_callV_I (c := 1) (As := [.int (xs (Int32.toNatClampNeg (v4 + 1)))]) (rest := []) (d' := 0) hC dL_law_251 1 (lw_V q277 q278 q279 q85 q280) (by decide +kernel) (List.mem_singleton.mp hm) (by decide) (by decide) rfl rfl rfl (Nat.le_of_ble_eq_true rfl) (Nat.le_trans (by decide) hd) (by decide) vLP_l (fun _ h => c_X1_sign (Nat.le_refl _) h) (fun r σ_8 => ?_))
          refine V_aload_n hC dL_law_254 rfl ?_
          refine V_aload_n hC dL_law_255 rfl ?_
          refine V_iload hC dL_law_256 rfl ?_
          refine V_iconst (v := 1) hC dL_law_258 rfl ?_
          refine V_iadd hC dL_law_259 ?_
          refine V_scrald dL_law_260 ?_
          refine V_cko (fun hm => V_callV_I (c := 3) (As := [.int (xs (Int32.toNatClampNeg (v4 + 1)))]) (rest := [.int r]) (d' := 0) hC dL_law_261 1 (lw_V q1440 q1441 q1442 q87 q1443) (by decide +kernel) (List.mem_singleton.mp hm) (by decide) (by decide) rfl rfl rfl (Nat.le_of_ble_eq_true rfl) (Nat.le_trans (by decide) hd) (by decide) vLP_l (fun _ h => c_X3_sign (Nat.le_refl _) h) (fun r_1 σ_9 => ?_))
          refine V_icmp_eq (tgt := 1694) hC dL_law_264 (by decide) ?_ ?_
          · exact hk σ_9
          · refine V_iconst (v := 0) hC dL_law_267 rfl ?_
            exact V_lret dL_law_268 rfl
        · skip
          refine V_if (fun hx => ?_) (fun h_1 => ?_)
          · refine V_tin 1 (off := 230) (tgt := 269) hC dL_law_39 hx (by decide) (by decide) (by decide) (by decide) ?_
            refine V_aload_n hC dL_law_269 rfl ?_
            refine V_aload_n hC dL_law_270 rfl ?_
            refine V_iload hC dL_law_271 rfl ?_
            refine V_iconst (v := 1) hC dL_law_273 rfl ?_
            refine V_iadd hC dL_law_274 ?_
            refine V_scrald dL_law_275 ?_
            refine V_cko (fun hm => V_callV_I (c := 1) (As := [.int (xs (Int32.toNatClampNeg (v4 + 1)))]) (rest := []) (d' := 1) hC dL_law_276 1 (lw_V q281 q282 q283 q85 q284) (by decide +kernel) (List.mem_singleton.mp hm) (by decide) (by decide) rfl rfl rfl (Nat.le_of_ble_eq_true rfl) (Nat.le_trans (by decide) hd) (by decide) vLP_l (fun _ h => c_X1_end (Nat.le_refl _) h) (fun r_2 σ_10 => ?_))
            refine V_aload_n hC dL_law_279 rfl ?_
            refine V_aload_n hC dL_law_280 rfl ?_
            refine V_iload hC dL_law_281 rfl ?_
            refine V_iconst (v := 1) hC dL_law_283 rfl ?_
            refine V_iadd hC dL_law_284 ?_
            refine V_scrald dL_law_285 ?_
            refine V_cko (fun hm => V_callV_I (c := 3) (As := [.int (xs (Int32.toNatClampNeg (v4 + 1)))]) (rest := [.int r_2]) (d' := 1) hC dL_law_286 1 (lw_V q1444 q1445 q1446 q87 q1447) (by decide +kernel) (List.mem_singleton.mp hm) (by decide) (by decide) rfl rfl rfl (Nat.le_of_ble_eq_true rfl) (Nat.le_trans (by decide) hd) (by decide) vLP_l (fun _ h => c_X3_end (Nat.le_refl _) h) (fun r_3 σ_11 => ?_))
            refine V_icmp_eq (tgt := 1694) hC dL_law_289 (by decide) ?_ ?_
            · exact hk σ_11
            · refine V_iconst (v := 0) hC dL_law_292 rfl ?_
              exact V_lret dL_law_293 rfl
          · skip
            refine V_if (fun hx => ?_) (fun h_2 => ?_)
            · refine V_tin 2 (off := 255) (tgt := 294) hC dL_law_39 hx (by decide) (by decide) (by decide) (by decide) ?_
              refine V_aload_n hC dL_law_294 rfl ?_
              refine V_cko (fun hm => V_wcallV_I (c := 1) (As := []) (rest := []) (d' := 9) hC dL_law_295 0 (lw_VW q288 q289 q290 q85 q291) (by decide +kernel) (List.mem_singleton.mp hm) (by decide) (by decide) rfl rfl rfl (Nat.le_of_ble_eq_true rfl) (Nat.le_trans (by decide) hd) (by decide) vLP_l (fun _ h => c_X1_ship (Nat.le_refl _) h0 h) (fun r_4 σ_12 => ?_))
              refine V_aload_n hC dL_law_298 rfl ?_
              refine V_cko (fun hm => V_callV_I (c := 3) (As := []) (rest := [.int r_4]) (d' := 4) hC dL_law_299 0 (lw_V q1451 q1452 q1453 q87 q1454) (by decide +kernel) (List.mem_singleton.mp hm) (by decide) (by decide) rfl rfl rfl (Nat.le_of_ble_eq_true rfl) (Nat.le_trans (by decide) hd) (by decide) vLP_l (fun _ h => c_X3_ship (Nat.le_refl _) h) (fun r_5 σ_13 => ?_))
              refine V_icmp_eq (tgt := 1694) hC dL_law_302 (by decide) ?_ ?_
              · exact hk σ_13
              · refine V_iconst (v := 0) hC dL_law_305 rfl ?_
                exact V_lret dL_law_306 rfl
            · skip
              refine V_if (fun hx => ?_) (fun h_3 => ?_)
              · refine V_tin 3 (off := 268) (tgt := 307) hC dL_law_39 hx (by decide) (by decide) (by decide) (by decide) ?_
                refine V_aload_n hC dL_law_307 rfl ?_
                refine V_cko (fun hm => V_wcallV_I (c := 1) (As := []) (rest := []) (d' := 10) hC dL_law_308 0 (lw_VW q471 q472 q473 q85 q474) (by decide +kernel) (List.mem_singleton.mp hm) (by decide) (by decide) rfl rfl rfl (Nat.le_of_ble_eq_true rfl) (Nat.le_trans (by decide) hd) (by decide) vLP_l (fun _ h => c_X1_rocks (Nat.le_refl _) h0 h) (fun r_6 σ_14 => ?_))
                refine V_aload_n hC dL_law_311 rfl ?_
                refine V_cko (fun hm => V_callV_I (c := 3) (As := []) (rest := [.int r_6]) (d' := 7) hC dL_law_312 0 (lw_V q1485 q1486 q1487 q87 q1488) (by decide +kernel) (List.mem_singleton.mp hm) (by decide) (by decide) rfl rfl rfl (Nat.le_of_ble_eq_true rfl) (Nat.le_trans (by decide) hd) (by decide) vLP_l (fun _ h => c_X3_rocks (Nat.le_refl _) h) (fun r_7 σ_15 => ?_))
                refine V_icmp_eq (tgt := 1694) hC dL_law_315 (by decide) ?_ ?_
                · exact hk σ_15
                · refine V_iconst (v := 0) hC dL_law_318 rfl ?_
                  exact V_lret dL_law_319 rfl
              · skip
                refine V_if (fun hx => ?_) (fun h_4 => ?_)
                · refine V_tin 4 (off := 281) (tgt := 320) hC dL_law_39 hx (by decide) (by decide) (by decide) (by decide) ?_
                  refine V_aload_n hC dL_law_320 rfl ?_
                  refine V_cko (fun hm => V_wcallV_I (c := 1) (As := []) (rest := []) (d' := 10) hC dL_law_321 0 (lw_VW q535 q536 q537 q85 q538) (by decide +kernel) (List.mem_singleton.mp hm) (by decide) (by decide) rfl rfl rfl (Nat.le_of_ble_eq_true rfl) (Nat.le_trans (by decide) hd) (by decide) vLP_l (fun _ h => c_X1_messes (Nat.le_refl _) h0 h) (fun r_8 σ_16 => ?_))
                  refine V_aload_n hC dL_law_324 rfl ?_
                  refine V_cko (fun hm => V_callV_I (c := 3) (As := []) (rest := [.int r_8]) (d' := 4) hC dL_law_325 0 (lw_V q1550 q1551 q1552 q87 q1553) (by decide +kernel) (List.mem_singleton.mp hm) (by decide) (by decide) rfl rfl rfl (Nat.le_of_ble_eq_true rfl) (Nat.le_trans (by decide) hd) (by decide) vLP_l (fun _ h => c_X3_messes (Nat.le_refl _) h) (fun r_9 σ_17 => ?_))
                  refine V_icmp_eq (tgt := 1694) hC dL_law_328 (by decide) ?_ ?_
                  · exact hk σ_17
                  · refine V_iconst (v := 0) hC dL_law_331 rfl ?_
                    exact V_lret dL_law_332 rfl
                · skip
                  refine V_if (fun hx => ?_) (fun h_5 => ?_)
                  · refine V_tin 5 (off := 294) (tgt := 333) hC dL_law_39 hx (by decide) (by decide) (by decide) (by decide) ?_
                    refine V_aload_n hC dL_law_333 rfl ?_
                    refine V_cko (fun hm => V_wcallV_I (c := 1) (As := []) (rest := []) (d' := 609) hC dL_law_334 0 (lw_VW q549 q550 q551 q85 q552) (by decide +kernel) (List.mem_singleton.mp hm) (by decide) (by decide) rfl rfl rfl (Nat.le_of_ble_eq_true rfl) (Nat.le_trans (by decide) hd) (by decide) vLP_l (fun _ h => c_X1_rule (Nat.le_refl _) h0 h) (fun r_10 σ_18 => ?_))
                    refine V_aload_n hC dL_law_337 rfl ?_
                    refine V_cko (fun hm => V_callV_I (c := 3) (As := []) (rest := [.int r_10]) (d' := 607) hC dL_law_338 0 (lw_V q1558 q1559 q1560 q87 q1561) (by decide +kernel) (List.mem_singleton.mp hm) (by decide) (by decide) rfl rfl rfl (Nat.le_of_ble_eq_true rfl) (Nat.le_trans (by decide) hd) (by decide) vLP_l (fun _ h => c_X3_rule (Nat.le_refl _) h) (fun r_11 σ_19 => ?_))
                    refine V_icmp_eq (tgt := 1694) hC dL_law_341 (by decide) ?_ ?_
                    · exact hk σ_19
                    · refine V_iconst (v := 0) hC dL_law_344 rfl ?_
                      exact V_lret dL_law_345 rfl
                  · skip
                    refine V_if (fun hx => ?_) (fun h_6 => ?_)
                    · refine V_tin 6 (off := 307) (tgt := 346) hC dL_law_39 hx (by decide) (by decide) (by decide) (by decide) ?_
                      refine V_aload_n hC dL_law_346 rfl ?_
                      refine V_aload_n hC dL_law_347 rfl ?_
                      refine V_iload hC dL_law_348 rfl ?_
                      refine V_iconst (v := 1) hC dL_law_350 rfl ?_
                      refine V_iadd hC dL_law_351 ?_
                      refine V_scrald dL_law_352 ?_
                      refine V_aload_n hC dL_law_353 rfl ?_
                      refine V_iload hC dL_law_354 rfl ?_
                      refine V_iconst (v := 2) hC dL_law_356 rfl ?_
                      refine V_iadd hC dL_law_357 ?_
                      refine V_scrald dL_law_358 ?_
                      refine V_aload_n hC dL_law_359 rfl ?_
                      refine V_wcallS_I (As := [.ref b, .int (xs (Int32.toNatClampNeg (v4 + 1))), .int (xs (Int32.toNatClampNeg (v4 + 2))), .ref b_2]) (rest := []) (d' := 6) hC dL_law_360 4 (lw_SW q1216 q1217 q84 q1218) (by decide +kernel) rfl rfl (Nat.le_of_ble_eq_true rfl) (Nat.le_trans (by decide) hd) (by decide) vLP_l (fun _ h => c_X0_post (Nat.le_refl _) h0 h) (fun r_12 σ_20 => ?_)
                      refine V_istore (ls' := [some (.ref (SB + 20)), some (.ref b), some (.ref b_1), some (.ref b_2), some (.int v4), some (.int r_12), none, none]) hC dL_law_363 (by decide) rfl rfl ?_
                      refine V_aload_n hC dL_law_365 rfl ?_
                      refine V_aload_n hC dL_law_366 rfl ?_
                      refine V_iload hC dL_law_367 rfl ?_
                      refine V_iconst (v := 1) hC dL_law_369 rfl ?_
                      refine V_iadd hC dL_law_370 ?_
                      refine V_scrald dL_law_371 ?_
                      refine V_aload_n hC dL_law_372 rfl ?_
                      refine V_iload hC dL_law_373 rfl ?_
                      refine V_iconst (v := 2) hC dL_law_375 rfl ?_
                      refine V_iadd hC dL_law_376 ?_
                      refine V_scrald dL_law_377 ?_
                      refine V_cko (fun hm => V_callV_I (c := 3) (As := [.int (xs (Int32.toNatClampNeg (v4 + 1))), .int (xs (Int32.toNatClampNeg (v4 + 2)))]) (rest := []) (d' := 1) hC dL_law_378 2 (lw_V q1578 q1579 q1580 q87 q1581) (by decide +kernel) (List.mem_singleton.mp hm) (by decide) (by decide) rfl rfl rfl (Nat.le_of_ble_eq_true rfl) (Nat.le_trans (by decide) hd) (by decide) vLP_l (fun _ h => c_X3_post (Nat.le_refl _) h) (fun r_13 σ_21 => ?_))
                      refine V_istore (ls' := [some (.ref (SB + 20)), some (.ref b), some (.ref b_1), some (.ref b_2), some (.int v4), some (.int r_12), some (.int r_13), none]) hC dL_law_381 (by decide) rfl rfl ?_
                      refine V_aload_n hC dL_law_383 rfl ?_
                      refine V_cko (fun hm => V_callV_PI (c := 3) (As := []) (rest := []) (d' := 0) hC dL_law_384 0 (lw_V q1436 q1437 q1438 q87 q1439) (by decide +kernel) (List.mem_singleton.mp hm) (by decide) (by decide) rfl rfl rfl (Nat.le_of_ble_eq_true rfl) (Nat.le_trans (by decide) hd) (by decide) vLP_l (fun _ h => c_X3_thrown (Nat.le_refl _) h) (fun r_14 => ?_))
                      refine V_iload hC dL_law_387 rfl ?_
                      refine V_icmp_eq (tgt := 394) hC dL_law_389 (by decide) ?_ ?_
                      · refine V_iload hC dL_law_394 rfl ?_
                        refine V_let (B := fun k_1 => V (vLP l L xs) (vEmb eI) σ_21 411 [some (.ref (SB + 20)), some (.ref b), some (.ref b_1), some (.ref b_2), some (.int v4), none, none, none] [] (k_1)) ?_ ?_
                        · skip
                          refine V_goto (tgt := 1694) hC dL_law_411 (by decide) ?_
                          exact hk σ_21
                        · intro k_1 hk_1
                          refine V_if_ne (tgt := 411) hC dL_law_396 (by decide) ?_ ?_
                          · refine V_clr [5, 6] (ls' := [some (.ref (SB + 20)), some (.ref b), some (.ref b_1), some (.ref b_2), some (.int v4), none, none, none]) rfl ?_
                            exact hk_1
                          · refine V_aload_n hC dL_law_399 rfl ?_
                            refine V_iconst (v := 0) hC dL_law_400 rfl ?_
                            refine V_lald hC dL_law_401 ?_
                            refine V_iload hC dL_law_402 rfl ?_
                            refine V_i2l hC dL_law_404 ?_
                            refine V_lcmp hC dL_law_405 ?_
                            refine V_if_eq (tgt := 411) hC dL_law_406 (by decide) ?_ ?_
                            · refine V_clr [5, 6] (ls' := [some (.ref (SB + 20)), some (.ref b), some (.ref b_1), some (.ref b_2), some (.int v4), none, none, none]) rfl ?_
                              exact hk_1
                            · refine V_iconst (v := 0) hC dL_law_409 rfl ?_
                              exact V_lret dL_law_410 rfl
                      · refine V_iconst (v := 0) hC dL_law_392 rfl ?_
                        exact V_lret dL_law_393 rfl
                    · skip
                      refine V_if (fun hx => ?_) (fun h_7 => ?_)
                      · refine V_tin 7 (off := 375) (tgt := 414) hC dL_law_39 hx (by decide) (by decide) (by decide) (by decide) ?_
                        refine V_aload_n hC dL_law_414 rfl ?_
                        refine V_aload_n hC dL_law_415 rfl ?_
                        refine V_iload hC dL_law_416 rfl ?_
                        refine V_iconst (v := 1) hC dL_law_418 rfl ?_
                        refine V_iadd hC dL_law_419 ?_
                        refine V_scrald dL_law_420 ?_
                        refine V_aload_n hC dL_law_421 rfl ?_
                        refine V_iload hC dL_law_422 rfl ?_
                        refine V_iconst (v := 2) hC dL_law_424 rfl ?_
                        refine V_iadd hC dL_law_425 ?_
                        refine V_scrald dL_law_426 ?_
                        refine V_aload_n hC dL_law_427 rfl ?_
                        refine V_wcallS_I (As := [.ref b, .int (xs (Int32.toNatClampNeg (v4 + 1))), .int (xs (Int32.toNatClampNeg (v4 + 2))), .ref b_2]) (rest := []) (d' := 6) hC dL_law_428 4 (lw_SW q1242 q1243 q84 q1244) (by decide +kernel) rfl rfl (Nat.le_of_ble_eq_true rfl) (Nat.le_trans (by decide) hd) (by decide) vLP_l (fun _ h => c_X0_rock (Nat.le_refl _) h0 h) (fun r_15 σ_22 => ?_)
                        refine V_istore (ls' := [some (.ref (SB + 20)), some (.ref b), some (.ref b_1), some (.ref b_2), some (.int v4), some (.int r_15), none, none]) hC dL_law_431 (by decide) rfl rfl ?_
                        refine V_aload_n hC dL_law_433 rfl ?_
                        refine V_aload_n hC dL_law_434 rfl ?_
                        refine V_iload hC dL_law_435 rfl ?_
                        refine V_iconst (v := 1) hC dL_law_437 rfl ?_
                        refine V_iadd hC dL_law_438 ?_
                        refine V_scrald dL_law_439 ?_
                        refine V_aload_n hC dL_law_440 rfl ?_
                        refine V_iload hC dL_law_441 rfl ?_
                        refine V_iconst (v := 2) hC dL_law_443 rfl ?_
                        refine V_iadd hC dL_law_444 ?_
                        refine V_scrald dL_law_445 ?_
                        refine V_cko (fun hm => V_callV_I (c := 3) (As := [.int (xs (Int32.toNatClampNeg (v4 + 1))), .int (xs (Int32.toNatClampNeg (v4 + 2)))]) (rest := []) (d' := 1) hC dL_law_446 2 (lw_V q1586 q1587 q1588 q87 q1589) (by decide +kernel) (List.mem_singleton.mp hm) (by decide) (by decide) rfl rfl rfl (Nat.le_of_ble_eq_true rfl) (Nat.le_trans (by decide) hd) (by decide) vLP_l (fun _ h => c_X3_rock (Nat.le_refl _) h) (fun r_16 σ_23 => ?_))
                        refine V_istore (ls' := [some (.ref (SB + 20)), some (.ref b), some (.ref b_1), some (.ref b_2), some (.int v4), some (.int r_15), some (.int r_16), none]) hC dL_law_449 (by decide) rfl rfl ?_
                        refine V_aload_n hC dL_law_451 rfl ?_
                        refine V_cko (fun hm => V_callV_PI (c := 3) (As := []) (rest := []) (d' := 0) hC dL_law_452 0 (lw_V q1436 q1437 q1438 q87 q1439) (by decide +kernel) (List.mem_singleton.mp hm) (by decide) (by decide) rfl rfl rfl (Nat.le_of_ble_eq_true rfl) (Nat.le_trans (by decide) hd) (by decide) vLP_l (fun _ h => c_X3_thrown (Nat.le_refl _) h) (fun r_17 => ?_))
                        refine V_iload hC dL_law_455 rfl ?_
                        refine V_icmp_eq (tgt := 462) hC dL_law_457 (by decide) ?_ ?_
                        · refine V_iload hC dL_law_462 rfl ?_
                          refine V_let (B := fun k_2 => V (vLP l L xs) (vEmb eI) σ_23 479 [some (.ref (SB + 20)), some (.ref b), some (.ref b_1), some (.ref b_2), some (.int v4), none, none, none] [] (k_2)) ?_ ?_
                          · skip
                            refine V_goto (tgt := 1694) hC dL_law_479 (by decide) ?_
                            exact hk σ_23
                          · intro k_2 hk_2
                            refine V_if_ne (tgt := 479) hC dL_law_464 (by decide) ?_ ?_
                            · refine V_clr [5, 6] (ls' := [some (.ref (SB + 20)), some (.ref b), some (.ref b_1), some (.ref b_2), some (.int v4), none, none, none]) rfl ?_
                              exact hk_2
                            · refine V_aload_n hC dL_law_467 rfl ?_
                              refine V_iconst (v := 0) hC dL_law_468 rfl ?_
                              refine V_lald hC dL_law_469 ?_
                              refine V_iload hC dL_law_470 rfl ?_
                              refine V_i2l hC dL_law_472 ?_
                              refine V_lcmp hC dL_law_473 ?_
                              refine V_if_eq (tgt := 479) hC dL_law_474 (by decide) ?_ ?_
                              · refine V_clr [5, 6] (ls' := [some (.ref (SB + 20)), some (.ref b), some (.ref b_1), some (.ref b_2), some (.int v4), none, none, none]) rfl ?_
                                exact hk_2
                              · refine V_iconst (v := 0) hC dL_law_477 rfl ?_
                                exact V_lret dL_law_478 rfl
                        · refine V_iconst (v := 0) hC dL_law_460 rfl ?_
                          exact V_lret dL_law_461 rfl
                      · skip
                        refine V_if (fun hx => ?_) (fun h_8 => ?_)
                        · refine V_tin 8 (off := 443) (tgt := 482) hC dL_law_39 hx (by decide) (by decide) (by decide) (by decide) ?_
                          refine V_aload_n hC dL_law_482 rfl ?_
                          refine V_aload_n hC dL_law_483 rfl ?_
                          refine V_iload hC dL_law_484 rfl ?_
                          refine V_iconst (v := 1) hC dL_law_486 rfl ?_
                          refine V_iadd hC dL_law_487 ?_
                          refine V_scrald dL_law_488 ?_
                          refine V_aload_n hC dL_law_489 rfl ?_
                          refine V_iload hC dL_law_490 rfl ?_
                          refine V_iconst (v := 2) hC dL_law_492 rfl ?_
                          refine V_iadd hC dL_law_493 ?_
                          refine V_scrald dL_law_494 ?_
                          refine V_aload_n hC dL_law_495 rfl ?_
                          refine V_wcallS_I (As := [.ref b, .int (xs (Int32.toNatClampNeg (v4 + 1))), .int (xs (Int32.toNatClampNeg (v4 + 2))), .ref b_2]) (rest := []) (d' := 6) hC dL_law_496 4 (lw_SW q1249 q1250 q84 q1251) (by decide +kernel) rfl rfl (Nat.le_of_ble_eq_true rfl) (Nat.le_trans (by decide) hd) (by decide) vLP_l (fun _ h => c_X0_mess (Nat.le_refl _) h0 h) (fun r_18 σ_24 => ?_)
                          refine V_istore (ls' := [some (.ref (SB + 20)), some (.ref b), some (.ref b_1), some (.ref b_2), some (.int v4), some (.int r_18), none, none]) hC dL_law_499 (by decide) rfl rfl ?_
                          refine V_aload_n hC dL_law_501 rfl ?_
                          refine V_aload_n hC dL_law_502 rfl ?_
                          refine V_iload hC dL_law_503 rfl ?_
                          refine V_iconst (v := 1) hC dL_law_505 rfl ?_
                          refine V_iadd hC dL_law_506 ?_
                          refine V_scrald dL_law_507 ?_
                          refine V_aload_n hC dL_law_508 rfl ?_
                          refine V_iload hC dL_law_509 rfl ?_
                          refine V_iconst (v := 2) hC dL_law_511 rfl ?_
                          refine V_iadd hC dL_law_512 ?_
                          refine V_scrald dL_law_513 ?_
                          refine V_cko (fun hm => V_callV_I (c := 3) (As := [.int (xs (Int32.toNatClampNeg (v4 + 1))), .int (xs (Int32.toNatClampNeg (v4 + 2)))]) (rest := []) (d' := 2) hC dL_law_514 2 (lw_V q1590 q1591 q1592 q87 q1593) (by decide +kernel) (List.mem_singleton.mp hm) (by decide) (by decide) rfl rfl rfl (Nat.le_of_ble_eq_true rfl) (Nat.le_trans (by decide) hd) (by decide) vLP_l (fun _ h => c_X3_mess (Nat.le_refl _) h) (fun r_19 σ_25 => ?_))
                          refine V_istore (ls' := [some (.ref (SB + 20)), some (.ref b), some (.ref b_1), some (.ref b_2), some (.int v4), some (.int r_18), some (.int r_19), none]) hC dL_law_517 (by decide) rfl rfl ?_
                          refine V_aload_n hC dL_law_519 rfl ?_
                          refine V_cko (fun hm => V_callV_PI (c := 3) (As := []) (rest := []) (d' := 0) hC dL_law_520 0 (lw_V q1436 q1437 q1438 q87 q1439) (by decide +kernel) (List.mem_singleton.mp hm) (by decide) (by decide) rfl rfl rfl (Nat.le_of_ble_eq_true rfl) (Nat.le_trans (by decide) hd) (by decide) vLP_l (fun _ h => c_X3_thrown (Nat.le_refl _) h) (fun r_20 => ?_))
                          refine V_iload hC dL_law_523 rfl ?_
                          refine V_icmp_eq (tgt := 530) hC dL_law_525 (by decide) ?_ ?_
                          · refine V_iload hC dL_law_530 rfl ?_
                            refine V_let (B := fun k_3 => V (vLP l L xs) (vEmb eI) σ_25 547 [some (.ref (SB + 20)), some (.ref b), some (.ref b_1), some (.ref b_2), some (.int v4), none, none, none] [] (k_3)) ?_ ?_
                            · skip
                              refine V_goto (tgt := 1694) hC dL_law_547 (by decide) ?_
                              exact hk σ_25
                            · intro k_3 hk_3
                              refine V_if_ne (tgt := 547) hC dL_law_532 (by decide) ?_ ?_
                              · refine V_clr [5, 6] (ls' := [some (.ref (SB + 20)), some (.ref b), some (.ref b_1), some (.ref b_2), some (.int v4), none, none, none]) rfl ?_
                                exact hk_3
                              · refine V_aload_n hC dL_law_535 rfl ?_
                                refine V_iconst (v := 0) hC dL_law_536 rfl ?_
                                refine V_lald hC dL_law_537 ?_
                                refine V_iload hC dL_law_538 rfl ?_
                                refine V_i2l hC dL_law_540 ?_
                                refine V_lcmp hC dL_law_541 ?_
                                refine V_if_eq (tgt := 547) hC dL_law_542 (by decide) ?_ ?_
                                · refine V_clr [5, 6] (ls' := [some (.ref (SB + 20)), some (.ref b), some (.ref b_1), some (.ref b_2), some (.int v4), none, none, none]) rfl ?_
                                  exact hk_3
                                · refine V_iconst (v := 0) hC dL_law_545 rfl ?_
                                  exact V_lret dL_law_546 rfl
                          · refine V_iconst (v := 0) hC dL_law_528 rfl ?_
                            exact V_lret dL_law_529 rfl
                        · skip
                          refine V_if (fun hx => ?_) (fun h_9 => ?_)
                          · refine V_tin 9 (off := 511) (tgt := 550) hC dL_law_39 hx (by decide) (by decide) (by decide) (by decide) ?_
                            refine V_aload_n hC dL_law_550 rfl ?_
                            refine V_aload_n hC dL_law_551 rfl ?_
                            refine V_iload hC dL_law_552 rfl ?_
                            refine V_iconst (v := 1) hC dL_law_554 rfl ?_
                            refine V_iadd hC dL_law_555 ?_
                            refine V_scrald dL_law_556 ?_
                            refine V_aload_n hC dL_law_557 rfl ?_
                            refine V_iload hC dL_law_558 rfl ?_
                            refine V_iconst (v := 2) hC dL_law_560 rfl ?_
                            refine V_iadd hC dL_law_561 ?_
                            refine V_scrald dL_law_562 ?_
                            refine V_aload_n hC dL_law_563 rfl ?_
                            refine V_wcallS_I (As := [.ref b, .int (xs (Int32.toNatClampNeg (v4 + 1))), .int (xs (Int32.toNatClampNeg (v4 + 2))), .ref b_2]) (rest := []) (d' := 6) hC dL_law_564 4 (lw_SW q1256 q1257 q84 q1258) (by decide +kernel) rfl rfl (Nat.le_of_ble_eq_true rfl) (Nat.le_trans (by decide) hd) (by decide) vLP_l (fun _ h => c_X0_way (Nat.le_refl _) h0 h) (fun r_21 σ_26 => ?_)
                            refine V_istore (ls' := [some (.ref (SB + 20)), some (.ref b), some (.ref b_1), some (.ref b_2), some (.int v4), some (.int r_21), none, none]) hC dL_law_567 (by decide) rfl rfl ?_
                            refine V_aload_n hC dL_law_569 rfl ?_
                            refine V_aload_n hC dL_law_570 rfl ?_
                            refine V_iload hC dL_law_571 rfl ?_
                            refine V_iconst (v := 1) hC dL_law_573 rfl ?_
                            refine V_iadd hC dL_law_574 ?_
                            refine V_scrald dL_law_575 ?_
                            refine V_aload_n hC dL_law_576 rfl ?_
                            refine V_iload hC dL_law_577 rfl ?_
                            refine V_iconst (v := 2) hC dL_law_579 rfl ?_
                            refine V_iadd hC dL_law_580 ?_
                            refine V_scrald dL_law_581 ?_
                            refine V_cko (fun hm => V_callV_I (c := 3) (As := [.int (xs (Int32.toNatClampNeg (v4 + 1))), .int (xs (Int32.toNatClampNeg (v4 + 2)))]) (rest := []) (d' := 1) hC dL_law_582 2 (lw_V q1599 q1600 q1601 q87 q1602) (by decide +kernel) (List.mem_singleton.mp hm) (by decide) (by decide) rfl rfl rfl (Nat.le_of_ble_eq_true rfl) (Nat.le_trans (by decide) hd) (by decide) vLP_l (fun _ h => c_X3_way (Nat.le_refl _) h) (fun r_22 σ_27 => ?_))
                            refine V_istore (ls' := [some (.ref (SB + 20)), some (.ref b), some (.ref b_1), some (.ref b_2), some (.int v4), some (.int r_21), some (.int r_22), none]) hC dL_law_585 (by decide) rfl rfl ?_
                            refine V_aload_n hC dL_law_587 rfl ?_
                            refine V_cko (fun hm => V_callV_PI (c := 3) (As := []) (rest := []) (d' := 0) hC dL_law_588 0 (lw_V q1436 q1437 q1438 q87 q1439) (by decide +kernel) (List.mem_singleton.mp hm) (by decide) (by decide) rfl rfl rfl (Nat.le_of_ble_eq_true rfl) (Nat.le_trans (by decide) hd) (by decide) vLP_l (fun _ h => c_X3_thrown (Nat.le_refl _) h) (fun r_23 => ?_))
                            refine V_iload hC dL_law_591 rfl ?_
                            refine V_icmp_eq (tgt := 598) hC dL_law_593 (by decide) ?_ ?_
                            · refine V_iload hC dL_law_598 rfl ?_
                              refine V_let (B := fun k_4 => V (vLP l L xs) (vEmb eI) σ_27 615 [some (.ref (SB + 20)), some (.ref b), some (.ref b_1), some (.ref b_2), some (.int v4), none, none, none] [] (k_4)) ?_ ?_
                              · skip
                                refine V_goto (tgt := 1694) hC dL_law_615 (by decide) ?_
                                exact hk σ_27
                              · intro k_4 hk_4
                                refine V_if_ne (tgt := 615) hC dL_law_600 (by decide) ?_ ?_
                                · refine V_clr [5, 6] (ls' := [some (.ref (SB + 20)), some (.ref b), some (.ref b_1), some (.ref b_2), some (.int v4), none, none, none]) rfl ?_
                                  exact hk_4
                                · refine V_aload_n hC dL_law_603 rfl ?_
                                  refine V_iconst (v := 0) hC dL_law_604 rfl ?_
                                  refine V_lald hC dL_law_605 ?_
                                  refine V_iload hC dL_law_606 rfl ?_
                                  refine V_i2l hC dL_law_608 ?_
                                  refine V_lcmp hC dL_law_609 ?_
                                  refine V_if_eq (tgt := 615) hC dL_law_610 (by decide) ?_ ?_
                                  · refine V_clr [5, 6] (ls' := [some (.ref (SB + 20)), some (.ref b), some (.ref b_1), some (.ref b_2), some (.int v4), none, none, none]) rfl ?_
                                    exact hk_4
                                  · refine V_iconst (v := 0) hC dL_law_613 rfl ?_
                                    exact V_lret dL_law_614 rfl
                            · refine V_iconst (v := 0) hC dL_law_596 rfl ?_
                              exact V_lret dL_law_597 rfl
                          · skip
                            refine V_if (fun hx => ?_) (fun h_10 => ?_)
                            · refine V_tin 10 (off := 579) (tgt := 618) hC dL_law_39 hx (by decide) (by decide) (by decide) (by decide) ?_
                              refine V_aload_n hC dL_law_618 rfl ?_
                              refine V_aload_n hC dL_law_619 rfl ?_
                              refine V_iload hC dL_law_620 rfl ?_
                              refine V_iconst (v := 1) hC dL_law_622 rfl ?_
                              refine V_iadd hC dL_law_623 ?_
                              refine V_scrald dL_law_624 ?_
                              refine V_aload_n hC dL_law_625 rfl ?_
                              refine V_iload hC dL_law_626 rfl ?_
                              refine V_iconst (v := 2) hC dL_law_628 rfl ?_
                              refine V_iadd hC dL_law_629 ?_
                              refine V_scrald dL_law_630 ?_
                              refine V_aload_n hC dL_law_631 rfl ?_
                              refine V_iload hC dL_law_632 rfl ?_
                              refine V_iconst (v := 3) hC dL_law_634 rfl ?_
                              refine V_iadd hC dL_law_635 ?_
                              refine V_scrald dL_law_636 ?_
                              refine V_aload_n hC dL_law_637 rfl ?_
                              refine V_iload hC dL_law_638 rfl ?_
                              refine V_iconst (v := 4) hC dL_law_640 rfl ?_
                              refine V_iadd hC dL_law_641 ?_
                              refine V_scrald dL_law_642 ?_
                              refine V_cko (fun hm => V_wcallV_I (c := 1) (As := [.int (xs (Int32.toNatClampNeg (v4 + 1))), .int (xs (Int32.toNatClampNeg (v4 + 2))), .int (xs (Int32.toNatClampNeg (v4 + 3))), .int (xs (Int32.toNatClampNeg (v4 + 4)))]) (rest := []) (d' := 163) hC dL_law_643 4 (lw_VW q633 q634 q635 q85 q636) (by decide +kernel) (List.mem_singleton.mp hm) (by decide) (by decide) rfl rfl rfl (Nat.le_of_ble_eq_true rfl) (Nat.le_trans (by decide) hd) (by decide) vLP_l (fun _ h => c_X1_sheet (Nat.le_refl _) h0 h) (fun r_24 σ_28 => ?_))
                              refine V_aload_n hC dL_law_646 rfl ?_
                              refine V_aload_n hC dL_law_647 rfl ?_
                              refine V_iload hC dL_law_648 rfl ?_
                              refine V_iconst (v := 1) hC dL_law_650 rfl ?_
                              refine V_iadd hC dL_law_651 ?_
                              refine V_scrald dL_law_652 ?_
                              refine V_aload_n hC dL_law_653 rfl ?_
                              refine V_iload hC dL_law_654 rfl ?_
                              refine V_iconst (v := 2) hC dL_law_656 rfl ?_
                              refine V_iadd hC dL_law_657 ?_
                              refine V_scrald dL_law_658 ?_
                              refine V_aload_n hC dL_law_659 rfl ?_
                              refine V_iload hC dL_law_660 rfl ?_
                              refine V_iconst (v := 3) hC dL_law_662 rfl ?_
                              refine V_iadd hC dL_law_663 ?_
                              refine V_scrald dL_law_664 ?_
                              refine V_aload_n hC dL_law_665 rfl ?_
                              refine V_iload hC dL_law_666 rfl ?_
                              refine V_iconst (v := 4) hC dL_law_668 rfl ?_
                              refine V_iadd hC dL_law_669 ?_
                              refine V_scrald dL_law_670 ?_
                              refine V_cko (fun hm => V_callV_I (c := 3) (As := [.int (xs (Int32.toNatClampNeg (v4 + 1))), .int (xs (Int32.toNatClampNeg (v4 + 2))), .int (xs (Int32.toNatClampNeg (v4 + 3))), .int (xs (Int32.toNatClampNeg (v4 + 4)))]) (rest := [.int r_24]) (d' := 1) hC dL_law_671 4 (lw_V q1607 q1608 q1609 q87 q1610) (by decide +kernel) (List.mem_singleton.mp hm) (by decide) (by decide) rfl rfl rfl (Nat.le_of_ble_eq_true rfl) (Nat.le_trans (by decide) hd) (by decide) vLP_l (fun _ h => c_X3_sheet (Nat.le_refl _) h) (fun r_25 σ_29 => ?_))
                              refine V_icmp_eq (tgt := 1694) hC dL_law_674 (by decide) ?_ ?_
                              · exact hk σ_29
                              · refine V_iconst (v := 0) hC dL_law_677 rfl ?_
                                exact V_lret dL_law_678 rfl
                            · skip
                              refine V_if (fun hx => ?_) (fun h_11 => ?_)
                              · refine V_tin 11 (off := 640) (tgt := 679) hC dL_law_39 hx (by decide) (by decide) (by decide) (by decide) ?_
                                refine V_aload_n hC dL_law_679 rfl ?_
                                refine V_cko (fun hm => V_callV_I (c := 1) (As := []) (rest := []) (d' := 610) hC dL_law_680 0 (lw_V q680 q681 q682 q85 q683) (by decide +kernel) (List.mem_singleton.mp hm) (by decide) (by decide) rfl rfl rfl (Nat.le_of_ble_eq_true rfl) (Nat.le_trans (by decide) hd) (by decide) vLP_l (fun _ h => c_X1_delay (Nat.le_refl _) h0 h) (fun r_26 σ_30 => ?_))
                                refine V_aload_n hC dL_law_683 rfl ?_
                                refine V_cko (fun hm => V_callV_I (c := 3) (As := []) (rest := [.int r_26]) (d' := 4) hC dL_law_684 0 (lw_V q1617 q1618 q1619 q87 q1620) (by decide +kernel) (List.mem_singleton.mp hm) (by decide) (by decide) rfl rfl rfl (Nat.le_of_ble_eq_true rfl) (Nat.le_trans (by decide) hd) (by decide) vLP_l (fun _ h => c_X3_delay (Nat.le_refl _) h) (fun r_27 σ_31 => ?_))
                                refine V_icmp_eq (tgt := 1694) hC dL_law_687 (by decide) ?_ ?_
                                · exact hk σ_31
                                · refine V_iconst (v := 0) hC dL_law_690 rfl ?_
                                  exact V_lret dL_law_691 rfl
                              · skip
                                refine V_if (fun hx => ?_) (fun h_12 => ?_)
                                · refine V_tin 12 (off := 653) (tgt := 692) hC dL_law_39 hx (by decide) (by decide) (by decide) (by decide) ?_
                                  refine V_aload_n hC dL_law_692 rfl ?_
                                  refine V_aload_n hC dL_law_693 rfl ?_
                                  refine V_iload hC dL_law_694 rfl ?_
                                  refine V_iconst (v := 1) hC dL_law_696 rfl ?_
                                  refine V_iadd hC dL_law_697 ?_
                                  refine V_scrald dL_law_698 ?_
                                  refine V_cko (fun hm => V_callV_I (c := 1) (As := [.int (xs (Int32.toNatClampNeg (v4 + 1)))]) (rest := []) (d' := 611) hC dL_law_699 1 (lw_V q693 q694 q695 q85 q696) (by decide +kernel) (List.mem_singleton.mp hm) (by decide) (by decide) rfl rfl rfl (Nat.le_of_ble_eq_true rfl) (Nat.le_trans (by decide) hd) (by decide) vLP_l (fun _ h => c_X1_order (Nat.le_refl _) h0 h) (fun r_28 σ_32 => ?_))
                                  refine V_aload_n hC dL_law_702 rfl ?_
                                  refine V_aload_n hC dL_law_703 rfl ?_
                                  refine V_iload hC dL_law_704 rfl ?_
                                  refine V_iconst (v := 1) hC dL_law_706 rfl ?_
                                  refine V_iadd hC dL_law_707 ?_
                                  refine V_scrald dL_law_708 ?_
                                  refine V_cko (fun hm => V_callV_I (c := 3) (As := [.int (xs (Int32.toNatClampNeg (v4 + 1)))]) (rest := [.int r_28]) (d' := 5) hC dL_law_709 1 (lw_V q1632 q1633 q1634 q87 q1635) (by decide +kernel) (List.mem_singleton.mp hm) (by decide) (by decide) rfl rfl rfl (Nat.le_of_ble_eq_true rfl) (Nat.le_trans (by decide) hd) (by decide) vLP_l (fun _ h => c_X3_order (Nat.le_refl _) h) (fun r_29 σ_33 => ?_))
                                  refine V_icmp_eq (tgt := 1694) hC dL_law_712 (by decide) ?_ ?_
                                  · exact hk σ_33
                                  · refine V_iconst (v := 0) hC dL_law_715 rfl ?_
                                    exact V_lret dL_law_716 rfl
                                · skip
                                  refine V_if (fun hx => ?_) (fun h_13 => ?_)
                                  · refine V_tin 13 (off := 678) (tgt := 717) hC dL_law_39 hx (by decide) (by decide) (by decide) (by decide) ?_
                                    refine V_aload_n hC dL_law_717 rfl ?_
                                    refine V_aload_n hC dL_law_718 rfl ?_
                                    refine V_iload hC dL_law_719 rfl ?_
                                    refine V_iconst (v := 1) hC dL_law_721 rfl ?_
                                    refine V_iadd hC dL_law_722 ?_
                                    refine V_scrald dL_law_723 ?_
                                    refine V_aload_n hC dL_law_724 rfl ?_
                                    refine V_iload hC dL_law_725 rfl ?_
                                    refine V_iconst (v := 2) hC dL_law_727 rfl ?_
                                    refine V_iadd hC dL_law_728 ?_
                                    refine V_scrald dL_law_729 ?_
                                    refine V_aload_n hC dL_law_730 rfl ?_
                                    refine V_iload hC dL_law_731 rfl ?_
                                    refine V_iconst (v := 3) hC dL_law_733 rfl ?_
                                    refine V_iadd hC dL_law_734 ?_
                                    refine V_scrald dL_law_735 ?_
                                    refine V_cko (fun hm => V_callV_I (c := 1) (As := [.int (xs (Int32.toNatClampNeg (v4 + 1))), .int (xs (Int32.toNatClampNeg (v4 + 2))), .int (xs (Int32.toNatClampNeg (v4 + 3)))]) (rest := []) (d' := 3) hC dL_law_736 3 (lw_V q723 q724 q725 q85 q726) (by decide +kernel) (List.mem_singleton.mp hm) (by decide) (by decide) rfl rfl rfl (Nat.le_of_ble_eq_true rfl) (Nat.le_trans (by decide) hd) (by decide) vLP_l (fun _ h => c_X1_pass (Nat.le_refl _) h) (fun r_30 σ_34 => ?_))
                                    refine V_aload_n hC dL_law_739 rfl ?_
                                    refine V_aload_n hC dL_law_740 rfl ?_
                                    refine V_iload hC dL_law_741 rfl ?_
                                    refine V_iconst (v := 1) hC dL_law_743 rfl ?_
                                    refine V_iadd hC dL_law_744 ?_
                                    refine V_scrald dL_law_745 ?_
                                    refine V_aload_n hC dL_law_746 rfl ?_
                                    refine V_iload hC dL_law_747 rfl ?_
                                    refine V_iconst (v := 2) hC dL_law_749 rfl ?_
                                    refine V_iadd hC dL_law_750 ?_
                                    refine V_scrald dL_law_751 ?_
                                    refine V_aload_n hC dL_law_752 rfl ?_
                                    refine V_iload hC dL_law_753 rfl ?_
                                    refine V_iconst (v := 3) hC dL_law_755 rfl ?_
                                    refine V_iadd hC dL_law_756 ?_
                                    refine V_scrald dL_law_757 ?_
                                    refine V_cko (fun hm => V_callV_I (c := 3) (As := [.int (xs (Int32.toNatClampNeg (v4 + 1))), .int (xs (Int32.toNatClampNeg (v4 + 2))), .int (xs (Int32.toNatClampNeg (v4 + 3)))]) (rest := [.int r_30]) (d' := 3) hC dL_law_758 3 (lw_V q1657 q1658 q1659 q87 q1660) (by decide +kernel) (List.mem_singleton.mp hm) (by decide) (by decide) rfl rfl rfl (Nat.le_of_ble_eq_true rfl) (Nat.le_trans (by decide) hd) (by decide) vLP_l (fun _ h => c_X3_pass (Nat.le_refl _) h) (fun r_31 σ_35 => ?_))
                                    refine V_icmp_eq (tgt := 1694) hC dL_law_761 (by decide) ?_ ?_
                                    · exact hk σ_35
                                    · refine V_iconst (v := 0) hC dL_law_764 rfl ?_
                                      exact V_lret dL_law_765 rfl
                                  · skip
                                    refine V_if (fun hx => ?_) (fun h_14 => ?_)
                                    · refine V_tin 14 (off := 727) (tgt := 766) hC dL_law_39 hx (by decide) (by decide) (by decide) (by decide) ?_
                                      refine V_aload_n hC dL_law_766 rfl ?_
                                      refine V_aload_n hC dL_law_767 rfl ?_
                                      refine V_iload hC dL_law_768 rfl ?_
                                      refine V_iconst (v := 1) hC dL_law_770 rfl ?_
                                      refine V_iadd hC dL_law_771 ?_
                                      refine V_scrald dL_law_772 ?_
                                      refine V_aload_n hC dL_law_773 rfl ?_
                                      refine V_iload hC dL_law_774 rfl ?_
                                      refine V_iconst (v := 2) hC dL_law_776 rfl ?_
                                      refine V_iadd hC dL_law_777 ?_
                                      refine V_scrald dL_law_778 ?_
                                      refine V_cko (fun hm => V_callV_I (c := 1) (As := [.int (xs (Int32.toNatClampNeg (v4 + 1))), .int (xs (Int32.toNatClampNeg (v4 + 2)))]) (rest := []) (d' := 2) hC dL_law_779 2 (lw_V q740 q741 q742 q85 q743) (by decide +kernel) (List.mem_singleton.mp hm) (by decide) (by decide) rfl rfl rfl (Nat.le_of_ble_eq_true rfl) (Nat.le_trans (by decide) hd) (by decide) vLP_l (fun _ h => c_X1_cook (Nat.le_refl _) h) (fun r_32 σ_36 => ?_))
                                      refine V_aload_n hC dL_law_782 rfl ?_
                                      refine V_aload_n hC dL_law_783 rfl ?_
                                      refine V_iload hC dL_law_784 rfl ?_
                                      refine V_iconst (v := 1) hC dL_law_786 rfl ?_
                                      refine V_iadd hC dL_law_787 ?_
                                      refine V_scrald dL_law_788 ?_
                                      refine V_aload_n hC dL_law_789 rfl ?_
                                      refine V_iload hC dL_law_790 rfl ?_
                                      refine V_iconst (v := 2) hC dL_law_792 rfl ?_
                                      refine V_iadd hC dL_law_793 ?_
                                      refine V_scrald dL_law_794 ?_
                                      refine V_cko (fun hm => V_callV_I (c := 3) (As := [.int (xs (Int32.toNatClampNeg (v4 + 1))), .int (xs (Int32.toNatClampNeg (v4 + 2)))]) (rest := [.int r_32]) (d' := 3) hC dL_law_795 2 (lw_V q1666 q1667 q1668 q87 q1669) (by decide +kernel) (List.mem_singleton.mp hm) (by decide) (by decide) rfl rfl rfl (Nat.le_of_ble_eq_true rfl) (Nat.le_trans (by decide) hd) (by decide) vLP_l (fun _ h => c_X3_cook (Nat.le_refl _) h) (fun r_33 σ_37 => ?_))
                                      refine V_icmp_eq (tgt := 1694) hC dL_law_798 (by decide) ?_ ?_
                                      · exact hk σ_37
                                      · refine V_iconst (v := 0) hC dL_law_801 rfl ?_
                                        exact V_lret dL_law_802 rfl
                                    · skip
                                      refine V_if (fun hx => ?_) (fun h_15 => ?_)
                                      · refine V_tin 15 (off := 764) (tgt := 803) hC dL_law_39 hx (by decide) (by decide) (by decide) (by decide) ?_
                                        refine V_aload_n hC dL_law_803 rfl ?_
                                        refine V_aload_n hC dL_law_804 rfl ?_
                                        refine V_iload hC dL_law_805 rfl ?_
                                        refine V_iconst (v := 1) hC dL_law_807 rfl ?_
                                        refine V_iadd hC dL_law_808 ?_
                                        refine V_scrald dL_law_809 ?_
                                        refine V_cko (fun hm => V_callV_I (c := 1) (As := [.int (xs (Int32.toNatClampNeg (v4 + 1)))]) (rest := []) (d' := 4) hC dL_law_810 1 (lw_V q744 q745 q746 q85 q747) (by decide +kernel) (List.mem_singleton.mp hm) (by decide) (by decide) rfl rfl rfl (Nat.le_of_ble_eq_true rfl) (Nat.le_trans (by decide) hd) (by decide) vLP_l (fun _ h => c_X1_steps (Nat.le_refl _) h) (fun r_34 σ_38 => ?_))
                                        refine V_aload_n hC dL_law_813 rfl ?_
                                        refine V_aload_n hC dL_law_814 rfl ?_
                                        refine V_iload hC dL_law_815 rfl ?_
                                        refine V_iconst (v := 1) hC dL_law_817 rfl ?_
                                        refine V_iadd hC dL_law_818 ?_
                                        refine V_scrald dL_law_819 ?_
                                        refine V_cko (fun hm => V_callV_I (c := 3) (As := [.int (xs (Int32.toNatClampNeg (v4 + 1)))]) (rest := [.int r_34]) (d' := 3) hC dL_law_820 1 (lw_V q1674 q1675 q1676 q87 q1677) (by decide +kernel) (List.mem_singleton.mp hm) (by decide) (by decide) rfl rfl rfl (Nat.le_of_ble_eq_true rfl) (Nat.le_trans (by decide) hd) (by decide) vLP_l (fun _ h => c_X3_steps (Nat.le_refl _) h) (fun r_35 σ_39 => ?_))
                                        refine V_icmp_eq (tgt := 1694) hC dL_law_823 (by decide) ?_ ?_
                                        · exact hk σ_39
                                        · refine V_iconst (v := 0) hC dL_law_826 rfl ?_
                                          exact V_lret dL_law_827 rfl
                                      · skip
                                        refine V_if (fun hx => ?_) (fun h_16 => ?_)
                                        · refine V_tin 16 (off := 789) (tgt := 828) hC dL_law_39 hx (by decide) (by decide) (by decide) (by decide) ?_
                                          refine V_aload_n hC dL_law_828 rfl ?_
                                          refine V_cko (fun hm => V_wcallV_I (c := 1) (As := []) (rest := []) (d' := 612) hC dL_law_829 0 (lw_VW q772 q773 q774 q85 q775) (by decide +kernel) (List.mem_singleton.mp hm) (by decide) (by decide) rfl rfl rfl (Nat.le_of_ble_eq_true rfl) (Nat.le_trans (by decide) hd) (by decide) vLP_l (fun _ h => c_X1_voyage (Nat.le_refl _) h0 h) (fun r_36 σ_40 => ?_))
                                          refine V_aload_n hC dL_law_832 rfl ?_
                                          refine V_cko (fun hm => V_callV_I (c := 3) (As := []) (rest := [.int r_36]) (d' := 7) hC dL_law_833 0 (lw_V q1701 q1702 q1703 q87 q1704) (by decide +kernel) (List.mem_singleton.mp hm) (by decide) (by decide) rfl rfl rfl (Nat.le_of_ble_eq_true rfl) (Nat.le_trans (by decide) hd) (by decide) vLP_l (fun _ h => c_X3_voyage (Nat.le_refl _) h) (fun r_37 σ_41 => ?_))
                                          refine V_icmp_eq (tgt := 1694) hC dL_law_836 (by decide) ?_ ?_
                                          · exact hk σ_41
                                          · refine V_iconst (v := 0) hC dL_law_839 rfl ?_
                                            exact V_lret dL_law_840 rfl
                                        · skip
                                          refine V_if (fun hx => ?_) (fun h_17 => ?_)
                                          · refine V_tin 17 (off := 802) (tgt := 841) hC dL_law_39 hx (by decide) (by decide) (by decide) (by decide) ?_
                                            refine V_aload_n hC dL_law_841 rfl ?_
                                            refine V_cko (fun hm => V_callV_I (c := 1) (As := []) (rest := []) (d' := 1) hC dL_law_842 0 (lw_V q828 q829 q830 q85 q831) (by decide +kernel) (List.mem_singleton.mp hm) (by decide) (by decide) rfl rfl rfl (Nat.le_of_ble_eq_true rfl) (Nat.le_trans (by decide) hd) (by decide) vLP_l (fun _ h => c_X1_undo (Nat.le_refl _) h) (fun r_38 σ_42 => ?_))
                                            refine V_aload_n hC dL_law_845 rfl ?_
                                            refine V_cko (fun hm => V_callV_I (c := 3) (As := []) (rest := [.int r_38]) (d' := 0) hC dL_law_846 0 (lw_V q1613 q1614 q1615 q87 q1616) (by decide +kernel) (List.mem_singleton.mp hm) (by decide) (by decide) rfl rfl rfl (Nat.le_of_ble_eq_true rfl) (Nat.le_trans (by decide) hd) (by decide) vLP_l (fun _ h => c_X3_undo (Nat.le_refl _) h) (fun r_39 σ_43 => ?_))
                                            refine V_icmp_eq (tgt := 1694) hC dL_law_849 (by decide) ?_ ?_
                                            · exact hk σ_43
                                            · refine V_iconst (v := 0) hC dL_law_852 rfl ?_
                                              exact V_lret dL_law_853 rfl
                                          · skip
                                            refine V_if (fun hx => ?_) (fun h_18 => ?_)
                                            · refine V_tin 18 (off := 815) (tgt := 854) hC dL_law_39 hx (by decide) (by decide) (by decide) (by decide) ?_
                                              refine V_aload_n hC dL_law_854 rfl ?_
                                              refine V_aload_n hC dL_law_855 rfl ?_
                                              refine V_iload hC dL_law_856 rfl ?_
                                              refine V_iconst (v := 1) hC dL_law_858 rfl ?_
                                              refine V_iadd hC dL_law_859 ?_
                                              refine V_scrald dL_law_860 ?_
                                              refine V_cko (fun hm => V_callV_I (c := 1) (As := [.int (xs (Int32.toNatClampNeg (v4 + 1)))]) (rest := []) (d' := 4) hC dL_law_861 1 (lw_V q832 q833 q834 q85 q835) (by decide +kernel) (List.mem_singleton.mp hm) (by decide) (by decide) rfl rfl rfl (Nat.le_of_ble_eq_true rfl) (Nat.le_trans (by decide) hd) (by decide) vLP_l (fun _ h => c_X1_lane (Nat.le_refl _) h) (fun r_40 σ_44 => ?_))
                                              refine V_aload_n hC dL_law_864 rfl ?_
                                              refine V_aload_n hC dL_law_865 rfl ?_
                                              refine V_iload hC dL_law_866 rfl ?_
                                              refine V_iconst (v := 1) hC dL_law_868 rfl ?_
                                              refine V_iadd hC dL_law_869 ?_
                                              refine V_scrald dL_law_870 ?_
                                              refine V_cko (fun hm => V_callV_I (c := 3) (As := [.int (xs (Int32.toNatClampNeg (v4 + 1)))]) (rest := [.int r_40]) (d' := 3) hC dL_law_871 1 (lw_V q1714 q1715 q1716 q87 q1717) (by decide +kernel) (List.mem_singleton.mp hm) (by decide) (by decide) rfl rfl rfl (Nat.le_of_ble_eq_true rfl) (Nat.le_trans (by decide) hd) (by decide) vLP_l (fun _ h => c_X3_lane (Nat.le_refl _) h) (fun r_41 σ_45 => ?_))
                                              refine V_icmp_eq (tgt := 1694) hC dL_law_874 (by decide) ?_ ?_
                                              · exact hk σ_45
                                              · refine V_iconst (v := 0) hC dL_law_877 rfl ?_
                                                exact V_lret dL_law_878 rfl
                                            · skip
                                              refine V_if (fun hx => ?_) (fun h_19 => ?_)
                                              · refine V_tin 19 (off := 840) (tgt := 879) hC dL_law_39 hx (by decide) (by decide) (by decide) (by decide) ?_
                                                refine V_aload_n hC dL_law_879 rfl ?_
                                                refine V_cko (fun hm => V_callV_I (c := 1) (As := []) (rest := []) (d' := 2) hC dL_law_880 0 (lw_V q836 q837 q838 q85 q839) (by decide +kernel) (List.mem_singleton.mp hm) (by decide) (by decide) rfl rfl rfl (Nat.le_of_ble_eq_true rfl) (Nat.le_trans (by decide) hd) (by decide) vLP_l (fun _ h => c_X1_strikes (Nat.le_refl _) h) (fun r_42 σ_46 => ?_))
                                                refine V_aload_n hC dL_law_883 rfl ?_
                                                refine V_cko (fun hm => V_callV_I (c := 3) (As := []) (rest := [.int r_42]) (d' := 3) hC dL_law_884 0 (lw_V q1722 q1723 q1724 q87 q1725) (by decide +kernel) (List.mem_singleton.mp hm) (by decide) (by decide) rfl rfl rfl (Nat.le_of_ble_eq_true rfl) (Nat.le_trans (by decide) hd) (by decide) vLP_l (fun _ h => c_X3_strikes (Nat.le_refl _) h) (fun r_43 σ_47 => ?_))
                                                refine V_icmp_eq (tgt := 1694) hC dL_law_887 (by decide) ?_ ?_
                                                · exact hk σ_47
                                                · refine V_iconst (v := 0) hC dL_law_890 rfl ?_
                                                  exact V_lret dL_law_891 rfl
                                              · skip
                                                refine V_if (fun hx => ?_) (fun h_20 => ?_)
                                                · refine V_tin 20 (off := 853) (tgt := 892) hC dL_law_39 hx (by decide) (by decide) (by decide) (by decide) ?_
                                                  refine V_aload_n hC dL_law_892 rfl ?_
                                                  refine V_cko (fun hm => V_callV_I (c := 1) (As := []) (rest := []) (d' := 611) hC dL_law_893 0 (lw_V q840 q841 q842 q85 q843) (by decide +kernel) (List.mem_singleton.mp hm) (by decide) (by decide) rfl rfl rfl (Nat.le_of_ble_eq_true rfl) (Nat.le_trans (by decide) hd) (by decide) vLP_l (fun _ h => c_X1_clears (Nat.le_refl _) h0 h) (fun r_44 σ_48 => ?_))
                                                  refine V_aload_n hC dL_law_896 rfl ?_
                                                  refine V_cko (fun hm => V_callV_I (c := 3) (As := []) (rest := [.int r_44]) (d' := 5) hC dL_law_897 0 (lw_V q1726 q1727 q1728 q87 q1729) (by decide +kernel) (List.mem_singleton.mp hm) (by decide) (by decide) rfl rfl rfl (Nat.le_of_ble_eq_true rfl) (Nat.le_trans (by decide) hd) (by decide) vLP_l (fun _ h => c_X3_clears (Nat.le_refl _) h) (fun r_45 σ_49 => ?_))
                                                  refine V_icmp_eq (tgt := 1694) hC dL_law_900 (by decide) ?_ ?_
                                                  · exact hk σ_49
                                                  · refine V_iconst (v := 0) hC dL_law_903 rfl ?_
                                                    exact V_lret dL_law_904 rfl
                                                · skip
                                                  refine V_if (fun hx => ?_) (fun h_21 => ?_)
                                                  · refine V_tin 21 (off := 866) (tgt := 905) hC dL_law_39 hx (by decide) (by decide) (by decide) (by decide) ?_
                                                    refine V_aload_n hC dL_law_905 rfl ?_
                                                    refine V_aload_n hC dL_law_906 rfl ?_
                                                    refine V_iload hC dL_law_907 rfl ?_
                                                    refine V_iconst (v := 1) hC dL_law_909 rfl ?_
                                                    refine V_iadd hC dL_law_910 ?_
                                                    refine V_scrald dL_law_911 ?_
                                                    refine V_cko (fun hm => V_callV_I (c := 1) (As := [.int (xs (Int32.toNatClampNeg (v4 + 1)))]) (rest := []) (d' := 613) hC dL_law_912 1 (lw_V q935 q936 q937 q85 q938) (by decide +kernel) (List.mem_singleton.mp hm) (by decide) (by decide) rfl rfl rfl (Nat.le_of_ble_eq_true rfl) (Nat.le_trans (by decide) hd) (by decide) vLP_l (fun _ h => c_X1_plan (Nat.le_refl _) h0 h) (fun r_46 σ_50 => ?_))
                                                    refine V_aload_n hC dL_law_915 rfl ?_
                                                    refine V_aload_n hC dL_law_916 rfl ?_
                                                    refine V_iload hC dL_law_917 rfl ?_
                                                    refine V_iconst (v := 1) hC dL_law_919 rfl ?_
                                                    refine V_iadd hC dL_law_920 ?_
                                                    refine V_scrald dL_law_921 ?_
                                                    refine V_cko (fun hm => V_callV_I (c := 3) (As := [.int (xs (Int32.toNatClampNeg (v4 + 1)))]) (rest := [.int r_46]) (d' := 7) hC dL_law_922 1 (lw_V q1748 q1749 q1750 q87 q1751) (by decide +kernel) (List.mem_singleton.mp hm) (by decide) (by decide) rfl rfl rfl (Nat.le_of_ble_eq_true rfl) (Nat.le_trans (by decide) hd) (by decide) vLP_l (fun _ h => c_X3_plan (Nat.le_refl _) h) (fun r_47 σ_51 => ?_))
                                                    refine V_icmp_eq (tgt := 1694) hC dL_law_925 (by decide) ?_ ?_
                                                    · exact hk σ_51
                                                    · refine V_iconst (v := 0) hC dL_law_928 rfl ?_
                                                      exact V_lret dL_law_929 rfl
                                                  · skip
                                                    refine V_if (fun hx => ?_) (fun h_22 => ?_)
                                                    · refine V_tin 22 (off := 891) (tgt := 930) hC dL_law_39 hx (by decide) (by decide) (by decide) (by decide) ?_
                                                      refine V_aload_n hC dL_law_930 rfl ?_
                                                      refine V_aload_n hC dL_law_931 rfl ?_
                                                      refine V_iload hC dL_law_932 rfl ?_
                                                      refine V_iconst (v := 1) hC dL_law_934 rfl ?_
                                                      refine V_iadd hC dL_law_935 ?_
                                                      refine V_scrald dL_law_936 ?_
                                                      refine V_cko (fun hm => V_callV_I (c := 1) (As := [.int (xs (Int32.toNatClampNeg (v4 + 1)))]) (rest := []) (d' := 612) hC dL_law_937 1 (lw_V q975 q976 q977 q85 q978) (by decide +kernel) (List.mem_singleton.mp hm) (by decide) (by decide) rfl rfl rfl (Nat.le_of_ble_eq_true rfl) (Nat.le_trans (by decide) hd) (by decide) vLP_l (fun _ h => c_X1_latest (Nat.le_refl _) h0 h) (fun r_48 σ_52 => ?_))
                                                      refine V_aload_n hC dL_law_940 rfl ?_
                                                      refine V_aload_n hC dL_law_941 rfl ?_
                                                      refine V_iload hC dL_law_942 rfl ?_
                                                      refine V_iconst (v := 1) hC dL_law_944 rfl ?_
                                                      refine V_iadd hC dL_law_945 ?_
                                                      refine V_scrald dL_law_946 ?_
                                                      refine V_cko (fun hm => V_callV_I (c := 3) (As := [.int (xs (Int32.toNatClampNeg (v4 + 1)))]) (rest := [.int r_48]) (d' := 7) hC dL_law_947 1 (lw_V q1769 q1770 q1771 q87 q1772) (by decide +kernel) (List.mem_singleton.mp hm) (by decide) (by decide) rfl rfl rfl (Nat.le_of_ble_eq_true rfl) (Nat.le_trans (by decide) hd) (by decide) vLP_l (fun _ h => c_X3_latest (Nat.le_refl _) h) (fun r_49 σ_53 => ?_))
                                                      refine V_icmp_eq (tgt := 1694) hC dL_law_950 (by decide) ?_ ?_
                                                      · exact hk σ_53
                                                      · refine V_iconst (v := 0) hC dL_law_953 rfl ?_
                                                        exact V_lret dL_law_954 rfl
                                                    · skip
                                                      refine V_if (fun hx => ?_) (fun h_23 => ?_)
                                                      · refine V_tin 23 (off := 916) (tgt := 955) hC dL_law_39 hx (by decide) (by decide) (by decide) (by decide) ?_
                                                        refine V_aload_n hC dL_law_955 rfl ?_
                                                        refine V_aload_n hC dL_law_956 rfl ?_
                                                        refine V_iload hC dL_law_957 rfl ?_
                                                        refine V_iconst (v := 1) hC dL_law_959 rfl ?_
                                                        refine V_iadd hC dL_law_960 ?_
                                                        refine V_scrald dL_law_961 ?_
                                                        refine V_cko (fun hm => V_callV_I (c := 1) (As := [.int (xs (Int32.toNatClampNeg (v4 + 1)))]) (rest := []) (d' := 613) hC dL_law_962 1 (lw_V q999 q1000 q1001 q85 q1002) (by decide +kernel) (List.mem_singleton.mp hm) (by decide) (by decide) rfl rfl rfl (Nat.le_of_ble_eq_true rfl) (Nat.le_trans (by decide) hd) (by decide) vLP_l (fun _ h => c_X1_lanes (Nat.le_refl _) h0 h) (fun r_50 σ_54 => ?_))
                                                        refine V_aload_n hC dL_law_965 rfl ?_
                                                        refine V_aload_n hC dL_law_966 rfl ?_
                                                        refine V_iload hC dL_law_967 rfl ?_
                                                        refine V_iconst (v := 1) hC dL_law_969 rfl ?_
                                                        refine V_iadd hC dL_law_970 ?_
                                                        refine V_scrald dL_law_971 ?_
                                                        refine V_cko (fun hm => V_callV_I (c := 3) (As := [.int (xs (Int32.toNatClampNeg (v4 + 1)))]) (rest := [.int r_50]) (d' := 6) hC dL_law_972 1 (lw_V q1773 q1774 q1775 q87 q1776) (by decide +kernel) (List.mem_singleton.mp hm) (by decide) (by decide) rfl rfl rfl (Nat.le_of_ble_eq_true rfl) (Nat.le_trans (by decide) hd) (by decide) vLP_l (fun _ h => c_X3_lanes (Nat.le_refl _) h) (fun r_51 σ_55 => ?_))
                                                        refine V_icmp_eq (tgt := 1694) hC dL_law_975 (by decide) ?_ ?_
                                                        · exact hk σ_55
                                                        · refine V_iconst (v := 0) hC dL_law_978 rfl ?_
                                                          exact V_lret dL_law_979 rfl
                                                      · skip
                                                        refine V_if (fun hx => ?_) (fun h_24 => ?_)
                                                        · refine V_tin 24 (off := 941) (tgt := 980) hC dL_law_39 hx (by decide) (by decide) (by decide) (by decide) ?_
                                                          refine V_aload_n hC dL_law_980 rfl ?_
                                                          refine V_aload_n hC dL_law_981 rfl ?_
                                                          refine V_iload hC dL_law_982 rfl ?_
                                                          refine V_iconst (v := 1) hC dL_law_984 rfl ?_
                                                          refine V_iadd hC dL_law_985 ?_
                                                          refine V_scrald dL_law_986 ?_
                                                          refine V_cko (fun hm => V_callV_I (c := 1) (As := [.int (xs (Int32.toNatClampNeg (v4 + 1)))]) (rest := []) (d' := 2) hC dL_law_987 1 (lw_V q1011 q1012 q1013 q85 q1014) (by decide +kernel) (List.mem_singleton.mp hm) (by decide) (by decide) rfl rfl rfl (Nat.le_of_ble_eq_true rfl) (Nat.le_trans (by decide) hd) (by decide) vLP_l (fun _ h => c_X1_safest (Nat.le_refl _) h) (fun r_52 σ_56 => ?_))
                                                          refine V_aload_n hC dL_law_990 rfl ?_
                                                          refine V_aload_n hC dL_law_991 rfl ?_
                                                          refine V_iload hC dL_law_992 rfl ?_
                                                          refine V_iconst (v := 1) hC dL_law_994 rfl ?_
                                                          refine V_iadd hC dL_law_995 ?_
                                                          refine V_scrald dL_law_996 ?_
                                                          refine V_cko (fun hm => V_callV_I (c := 3) (As := [.int (xs (Int32.toNatClampNeg (v4 + 1)))]) (rest := [.int r_52]) (d' := 2) hC dL_law_997 1 (lw_V q1778 q1779 q1780 q87 q1781) (by decide +kernel) (List.mem_singleton.mp hm) (by decide) (by decide) rfl rfl rfl (Nat.le_of_ble_eq_true rfl) (Nat.le_trans (by decide) hd) (by decide) vLP_l (fun _ h => c_X3_safest (Nat.le_refl _) h) (fun r_53 σ_57 => ?_))
                                                          refine V_icmp_eq (tgt := 1694) hC dL_law_1000 (by decide) ?_ ?_
                                                          · exact hk σ_57
                                                          · refine V_iconst (v := 0) hC dL_law_1003 rfl ?_
                                                            exact V_lret dL_law_1004 rfl
                                                        · skip
                                                          refine V_if (fun hx => ?_) (fun h_25 => ?_)
                                                          · refine V_tin 25 (off := 966) (tgt := 1005) hC dL_law_39 hx (by decide) (by decide) (by decide) (by decide) ?_
                                                            refine V_aload_n hC dL_law_1005 rfl ?_
                                                            refine V_aload_n hC dL_law_1006 rfl ?_
                                                            refine V_iload hC dL_law_1007 rfl ?_
                                                            refine V_iconst (v := 1) hC dL_law_1009 rfl ?_
                                                            refine V_iadd hC dL_law_1010 ?_
                                                            refine V_scrald dL_law_1011 ?_
                                                            refine V_cko (fun hm => V_callV_I (c := 1) (As := [.int (xs (Int32.toNatClampNeg (v4 + 1)))]) (rest := []) (d' := 610) hC dL_law_1012 1 (lw_V q1021 q1022 q1023 q85 q1024) (by decide +kernel) (List.mem_singleton.mp hm) (by decide) (by decide) rfl rfl rfl (Nat.le_of_ble_eq_true rfl) (Nat.le_trans (by decide) hd) (by decide) vLP_l (fun _ h => c_X1_late (Nat.le_refl _) h0 h) (fun r_54 σ_58 => ?_))
                                                            refine V_aload_n hC dL_law_1015 rfl ?_
                                                            refine V_aload_n hC dL_law_1016 rfl ?_
                                                            refine V_iload hC dL_law_1017 rfl ?_
                                                            refine V_iconst (v := 1) hC dL_law_1019 rfl ?_
                                                            refine V_iadd hC dL_law_1020 ?_
                                                            refine V_scrald dL_law_1021 ?_
                                                            refine V_cko (fun hm => V_callV_I (c := 3) (As := [.int (xs (Int32.toNatClampNeg (v4 + 1)))]) (rest := [.int r_54]) (d' := 4) hC dL_law_1022 1 (lw_V q1788 q1789 q1790 q87 q1791) (by decide +kernel) (List.mem_singleton.mp hm) (by decide) (by decide) rfl rfl rfl (Nat.le_of_ble_eq_true rfl) (Nat.le_trans (by decide) hd) (by decide) vLP_l (fun _ h => c_X3_late (Nat.le_refl _) h) (fun r_55 σ_59 => ?_))
                                                            refine V_icmp_eq (tgt := 1694) hC dL_law_1025 (by decide) ?_ ?_
                                                            · exact hk σ_59
                                                            · refine V_iconst (v := 0) hC dL_law_1028 rfl ?_
                                                              exact V_lret dL_law_1029 rfl
                                                          · skip
                                                            refine V_if (fun hx => ?_) (fun h_26 => ?_)
                                                            · refine V_tin 26 (off := 991) (tgt := 1030) hC dL_law_39 hx (by decide) (by decide) (by decide) (by decide) ?_
                                                              refine V_aload_n hC dL_law_1030 rfl ?_
                                                              refine V_aload_n hC dL_law_1031 rfl ?_
                                                              refine V_iload hC dL_law_1032 rfl ?_
                                                              refine V_iconst (v := 1) hC dL_law_1034 rfl ?_
                                                              refine V_iadd hC dL_law_1035 ?_
                                                              refine V_scrald dL_law_1036 ?_
                                                              refine V_cko (fun hm => V_callV_I (c := 1) (As := [.int (xs (Int32.toNatClampNeg (v4 + 1)))]) (rest := []) (d' := 611) hC dL_law_1037 1 (lw_V q1025 q1026 q1027 q85 q1028) (by decide +kernel) (List.mem_singleton.mp hm) (by decide) (by decide) rfl rfl rfl (Nat.le_of_ble_eq_true rfl) (Nat.le_trans (by decide) hd) (by decide) vLP_l (fun _ h => c_X1_comes (Nat.le_refl _) h0 h) (fun r_56 σ_60 => ?_))
                                                              refine V_aload_n hC dL_law_1040 rfl ?_
                                                              refine V_aload_n hC dL_law_1041 rfl ?_
                                                              refine V_iload hC dL_law_1042 rfl ?_
                                                              refine V_iconst (v := 1) hC dL_law_1044 rfl ?_
                                                              refine V_iadd hC dL_law_1045 ?_
                                                              refine V_scrald dL_law_1046 ?_
                                                              refine V_cko (fun hm => V_callV_I (c := 3) (As := [.int (xs (Int32.toNatClampNeg (v4 + 1)))]) (rest := [.int r_56]) (d' := 4) hC dL_law_1047 1 (lw_V q1792 q1793 q1794 q87 q1795) (by decide +kernel) (List.mem_singleton.mp hm) (by decide) (by decide) rfl rfl rfl (Nat.le_of_ble_eq_true rfl) (Nat.le_trans (by decide) hd) (by decide) vLP_l (fun _ h => c_X3_comes (Nat.le_refl _) h) (fun r_57 σ_61 => ?_))
                                                              refine V_icmp_eq (tgt := 1694) hC dL_law_1050 (by decide) ?_ ?_
                                                              · exact hk σ_61
                                                              · refine V_iconst (v := 0) hC dL_law_1053 rfl ?_
                                                                exact V_lret dL_law_1054 rfl
                                                            · skip
                                                              refine V_if (fun hx => ?_) (fun h_27 => ?_)
                                                              · refine V_tin 27 (off := 1016) (tgt := 1055) hC dL_law_39 hx (by decide) (by decide) (by decide) (by decide) ?_
                                                                refine V_aload_n hC dL_law_1055 rfl ?_
                                                                refine V_aload_n hC dL_law_1056 rfl ?_
                                                                refine V_iload hC dL_law_1057 rfl ?_
                                                                refine V_iconst (v := 1) hC dL_law_1059 rfl ?_
                                                                refine V_iadd hC dL_law_1060 ?_
                                                                refine V_scrald dL_law_1061 ?_
                                                                refine V_cko (fun hm => V_callV_I (c := 1) (As := [.int (xs (Int32.toNatClampNeg (v4 + 1)))]) (rest := []) (d' := 1) hC dL_law_1062 1 (lw_V q1031 q1032 q1033 q85 q1034) (by decide +kernel) (List.mem_singleton.mp hm) (by decide) (by decide) rfl rfl rfl (Nat.le_of_ble_eq_true rfl) (Nat.le_trans (by decide) hd) (by decide) vLP_l (fun _ h => c_X1_relay (Nat.le_refl _) h) (fun r_58 σ_62 => ?_))
                                                                refine V_aload_n hC dL_law_1065 rfl ?_
                                                                refine V_aload_n hC dL_law_1066 rfl ?_
                                                                refine V_iload hC dL_law_1067 rfl ?_
                                                                refine V_iconst (v := 1) hC dL_law_1069 rfl ?_
                                                                refine V_iadd hC dL_law_1070 ?_
                                                                refine V_scrald dL_law_1071 ?_
                                                                refine V_cko (fun hm => V_callV_I (c := 3) (As := [.int (xs (Int32.toNatClampNeg (v4 + 1)))]) (rest := [.int r_58]) (d' := 1) hC dL_law_1072 1 (lw_V q1797 q1798 q1799 q87 q1800) (by decide +kernel) (List.mem_singleton.mp hm) (by decide) (by decide) rfl rfl rfl (Nat.le_of_ble_eq_true rfl) (Nat.le_trans (by decide) hd) (by decide) vLP_l (fun _ h => c_X3_relay (Nat.le_refl _) h) (fun r_59 σ_63 => ?_))
                                                                refine V_icmp_eq (tgt := 1694) hC dL_law_1075 (by decide) ?_ ?_
                                                                · exact hk σ_63
                                                                · refine V_iconst (v := 0) hC dL_law_1078 rfl ?_
                                                                  exact V_lret dL_law_1079 rfl
                                                              · skip
                                                                refine V_if (fun hx => ?_) (fun h_28 => ?_)
                                                                · refine V_tin 28 (off := 1041) (tgt := 1080) hC dL_law_39 hx (by decide) (by decide) (by decide) (by decide) ?_
                                                                  refine V_aload_n hC dL_law_1080 rfl ?_
                                                                  refine V_aload_n hC dL_law_1081 rfl ?_
                                                                  refine V_iload hC dL_law_1082 rfl ?_
                                                                  refine V_iconst (v := 1) hC dL_law_1084 rfl ?_
                                                                  refine V_iadd hC dL_law_1085 ?_
                                                                  refine V_scrald dL_law_1086 ?_
                                                                  refine V_cko (fun hm => V_callV_PI (c := 1) (As := [.int (xs (Int32.toNatClampNeg (v4 + 1)))]) (rest := []) (d' := 1) hC dL_law_1087 1 (lw_V q1039 q1040 q1041 q85 q1042) (by decide +kernel) (List.mem_singleton.mp hm) (by decide) (by decide) rfl rfl rfl (Nat.le_of_ble_eq_true rfl) (Nat.le_trans (by decide) hd) (by decide) vLP_l (fun _ h => c_X1_fewest (Nat.le_refl _) h) (fun r_60 => ?_))
                                                                  refine V_aload_n hC dL_law_1090 rfl ?_
                                                                  refine V_aload_n hC dL_law_1091 rfl ?_
                                                                  refine V_iload hC dL_law_1092 rfl ?_
                                                                  refine V_iconst (v := 1) hC dL_law_1094 rfl ?_
                                                                  refine V_iadd hC dL_law_1095 ?_
                                                                  refine V_scrald dL_law_1096 ?_
                                                                  refine V_cko (fun hm => V_callV_I (c := 3) (As := [.int (xs (Int32.toNatClampNeg (v4 + 1)))]) (rest := [.int r_60]) (d' := 1) hC dL_law_1097 1 (lw_V q1806 q1807 q1808 q87 q1809) (by decide +kernel) (List.mem_singleton.mp hm) (by decide) (by decide) rfl rfl rfl (Nat.le_of_ble_eq_true rfl) (Nat.le_trans (by decide) hd) (by decide) vLP_l (fun _ h => c_X3_fewest (Nat.le_refl _) h) (fun r_61 σ_64 => ?_))
                                                                  refine V_icmp_eq (tgt := 1694) hC dL_law_1100 (by decide) ?_ ?_
                                                                  · exact hk σ_64
                                                                  · refine V_iconst (v := 0) hC dL_law_1103 rfl ?_
                                                                    exact V_lret dL_law_1104 rfl
                                                                · skip
                                                                  refine V_if (fun hx => ?_) (fun h_29 => ?_)
                                                                  · refine V_tin 29 (off := 1066) (tgt := 1105) hC dL_law_39 hx (by decide) (by decide) (by decide) (by decide) ?_
                                                                    refine V_aload_n hC dL_law_1105 rfl ?_
                                                                    refine V_aload_n hC dL_law_1106 rfl ?_
                                                                    refine V_iload hC dL_law_1107 rfl ?_
                                                                    refine V_iconst (v := 1) hC dL_law_1109 rfl ?_
                                                                    refine V_iadd hC dL_law_1110 ?_
                                                                    refine V_scrald dL_law_1111 ?_
                                                                    refine V_aload_n hC dL_law_1112 rfl ?_
                                                                    refine V_iload hC dL_law_1113 rfl ?_
                                                                    refine V_iconst (v := 2) hC dL_law_1115 rfl ?_
                                                                    refine V_iadd hC dL_law_1116 ?_
                                                                    refine V_scrald dL_law_1117 ?_
                                                                    refine V_cko (fun hm => V_callV_I (c := 1) (As := [.int (xs (Int32.toNatClampNeg (v4 + 1))), .int (xs (Int32.toNatClampNeg (v4 + 2)))]) (rest := []) (d' := 102) hC dL_law_1118 2 (lw_V q1044 q1045 q1046 q85 q1047) (by decide +kernel) (List.mem_singleton.mp hm) (by decide) (by decide) rfl rfl rfl (Nat.le_of_ble_eq_true rfl) (Nat.le_trans (by decide) hd) (by decide) vLP_l (fun _ h => c_X1_word (Nat.le_refl _) h) (fun r_62 σ_65 => ?_))
                                                                    refine V_aload_n hC dL_law_1121 rfl ?_
                                                                    refine V_aload_n hC dL_law_1122 rfl ?_
                                                                    refine V_iload hC dL_law_1123 rfl ?_
                                                                    refine V_iconst (v := 1) hC dL_law_1125 rfl ?_
                                                                    refine V_iadd hC dL_law_1126 ?_
                                                                    refine V_scrald dL_law_1127 ?_
                                                                    refine V_aload_n hC dL_law_1128 rfl ?_
                                                                    refine V_iload hC dL_law_1129 rfl ?_
                                                                    refine V_iconst (v := 2) hC dL_law_1131 rfl ?_
                                                                    refine V_iadd hC dL_law_1132 ?_
                                                                    refine V_scrald dL_law_1133 ?_
                                                                    refine V_cko (fun hm => V_callV_I (c := 3) (As := [.int (xs (Int32.toNatClampNeg (v4 + 1))), .int (xs (Int32.toNatClampNeg (v4 + 2)))]) (rest := [.int r_62]) (d' := 102) hC dL_law_1134 2 (lw_V q1811 q1812 q1813 q87 q1814) (by decide +kernel) (List.mem_singleton.mp hm) (by decide) (by decide) rfl rfl rfl (Nat.le_of_ble_eq_true rfl) (Nat.le_trans (by decide) hd) (by decide) vLP_l (fun _ h => c_X3_word (Nat.le_refl _) h) (fun r_63 σ_66 => ?_))
                                                                    refine V_icmp_eq (tgt := 1694) hC dL_law_1137 (by decide) ?_ ?_
                                                                    · exact hk σ_66
                                                                    · refine V_iconst (v := 0) hC dL_law_1140 rfl ?_
                                                                      exact V_lret dL_law_1141 rfl
                                                                  · skip
                                                                    refine V_if (fun hx => ?_) (fun h_30 => ?_)
                                                                    · refine V_tin 30 (off := 1103) (tgt := 1142) hC dL_law_39 hx (by decide) (by decide) (by decide) (by decide) ?_
                                                                      refine V_aload_n hC dL_law_1142 rfl ?_
                                                                      refine V_aload_n hC dL_law_1143 rfl ?_
                                                                      refine V_iload hC dL_law_1144 rfl ?_
                                                                      refine V_iconst (v := 1) hC dL_law_1146 rfl ?_
                                                                      refine V_iadd hC dL_law_1147 ?_
                                                                      refine V_scrald dL_law_1148 ?_
                                                                      refine V_aload_n hC dL_law_1149 rfl ?_
                                                                      refine V_iload hC dL_law_1150 rfl ?_
                                                                      refine V_iconst (v := 2) hC dL_law_1152 rfl ?_
                                                                      refine V_iadd hC dL_law_1153 ?_
                                                                      refine V_scrald dL_law_1154 ?_
                                                                      refine V_cko (fun hm => V_callV_I (c := 1) (As := [.int (xs (Int32.toNatClampNeg (v4 + 1))), .int (xs (Int32.toNatClampNeg (v4 + 2)))]) (rest := []) (d' := 1) hC dL_law_1155 2 (lw_V q1062 q1063 q1064 q85 q1065) (by decide +kernel) (List.mem_singleton.mp hm) (by decide) (by decide) rfl rfl rfl (Nat.le_of_ble_eq_true rfl) (Nat.le_trans (by decide) hd) (by decide) vLP_l (fun _ h => c_X1_survives (Nat.le_refl _) h) (fun r_64 σ_67 => ?_))
                                                                      refine V_aload_n hC dL_law_1158 rfl ?_
                                                                      refine V_aload_n hC dL_law_1159 rfl ?_
                                                                      refine V_iload hC dL_law_1160 rfl ?_
                                                                      refine V_iconst (v := 1) hC dL_law_1162 rfl ?_
                                                                      refine V_iadd hC dL_law_1163 ?_
                                                                      refine V_scrald dL_law_1164 ?_
                                                                      refine V_aload_n hC dL_law_1165 rfl ?_
                                                                      refine V_iload hC dL_law_1166 rfl ?_
                                                                      refine V_iconst (v := 2) hC dL_law_1168 rfl ?_
                                                                      refine V_iadd hC dL_law_1169 ?_
                                                                      refine V_scrald dL_law_1170 ?_
                                                                      refine V_cko (fun hm => V_callV_I (c := 3) (As := [.int (xs (Int32.toNatClampNeg (v4 + 1))), .int (xs (Int32.toNatClampNeg (v4 + 2)))]) (rest := [.int r_64]) (d' := 1) hC dL_law_1171 2 (lw_V q1827 q1828 q1829 q87 q1830) (by decide +kernel) (List.mem_singleton.mp hm) (by decide) (by decide) rfl rfl rfl (Nat.le_of_ble_eq_true rfl) (Nat.le_trans (by decide) hd) (by decide) vLP_l (fun _ h => c_X3_survives (Nat.le_refl _) h) (fun r_65 σ_68 => ?_))
                                                                      refine V_icmp_eq (tgt := 1694) hC dL_law_1174 (by decide) ?_ ?_
                                                                      · exact hk σ_68
                                                                      · refine V_iconst (v := 0) hC dL_law_1177 rfl ?_
                                                                        exact V_lret dL_law_1178 rfl
                                                                    · skip
                                                                      refine V_if (fun hx => ?_) (fun h_31 => ?_)
                                                                      · refine V_tin 31 (off := 1140) (tgt := 1179) hC dL_law_39 hx (by decide) (by decide) (by decide) (by decide) ?_
                                                                        refine V_aload_n hC dL_law_1179 rfl ?_
                                                                        refine V_aload_n hC dL_law_1180 rfl ?_
                                                                        refine V_iload hC dL_law_1181 rfl ?_
                                                                        refine V_iconst (v := 1) hC dL_law_1183 rfl ?_
                                                                        refine V_iadd hC dL_law_1184 ?_
                                                                        refine V_scrald dL_law_1185 ?_
                                                                        refine V_cko (fun hm => V_callV_I (c := 1) (As := [.int (xs (Int32.toNatClampNeg (v4 + 1)))]) (rest := []) (d' := 1) hC dL_law_1186 1 (lw_V q1067 q1068 q1069 q85 q1070) (by decide +kernel) (List.mem_singleton.mp hm) (by decide) (by decide) rfl rfl rfl (Nat.le_of_ble_eq_true rfl) (Nat.le_trans (by decide) hd) (by decide) vLP_l (fun _ h => c_X1_lives (Nat.le_refl _) h) (fun r_66 σ_69 => ?_))
                                                                        refine V_aload_n hC dL_law_1189 rfl ?_
                                                                        refine V_aload_n hC dL_law_1190 rfl ?_
                                                                        refine V_iload hC dL_law_1191 rfl ?_
                                                                        refine V_iconst (v := 1) hC dL_law_1193 rfl ?_
                                                                        refine V_iadd hC dL_law_1194 ?_
                                                                        refine V_scrald dL_law_1195 ?_
                                                                        refine V_cko (fun hm => V_callV_I (c := 3) (As := [.int (xs (Int32.toNatClampNeg (v4 + 1)))]) (rest := [.int r_66]) (d' := 1) hC dL_law_1196 1 (lw_V q1832 q1833 q1834 q87 q1835) (by decide +kernel) (List.mem_singleton.mp hm) (by decide) (by decide) rfl rfl rfl (Nat.le_of_ble_eq_true rfl) (Nat.le_trans (by decide) hd) (by decide) vLP_l (fun _ h => c_X3_lives (Nat.le_refl _) h) (fun r_67 σ_70 => ?_))
                                                                        refine V_icmp_eq (tgt := 1694) hC dL_law_1199 (by decide) ?_ ?_
                                                                        · exact hk σ_70
                                                                        · refine V_iconst (v := 0) hC dL_law_1202 rfl ?_
                                                                          exact V_lret dL_law_1203 rfl
                                                                      · skip
                                                                        refine V_if (fun hx => ?_) (fun h_32 => ?_)
                                                                        · refine V_tin 32 (off := 1165) (tgt := 1204) hC dL_law_39 hx (by decide) (by decide) (by decide) (by decide) ?_
                                                                          refine V_aload_n hC dL_law_1204 rfl ?_
                                                                          refine V_aload_n hC dL_law_1205 rfl ?_
                                                                          refine V_iload hC dL_law_1206 rfl ?_
                                                                          refine V_iconst (v := 1) hC dL_law_1208 rfl ?_
                                                                          refine V_iadd hC dL_law_1209 ?_
                                                                          refine V_scrald dL_law_1210 ?_
                                                                          refine V_cko (fun hm => V_callV_I (c := 1) (As := [.int (xs (Int32.toNatClampNeg (v4 + 1)))]) (rest := []) (d' := 2) hC dL_law_1211 1 (lw_V q1080 q1081 q1082 q85 q1083) (by decide +kernel) (List.mem_singleton.mp hm) (by decide) (by decide) rfl rfl rfl (Nat.le_of_ble_eq_true rfl) (Nat.le_trans (by decide) hd) (by decide) vLP_l (fun _ h => c_X1_shares (Nat.le_refl _) h) (fun r_68 σ_71 => ?_))
                                                                          refine V_aload_n hC dL_law_1214 rfl ?_
                                                                          refine V_aload_n hC dL_law_1215 rfl ?_
                                                                          refine V_iload hC dL_law_1216 rfl ?_
                                                                          refine V_iconst (v := 1) hC dL_law_1218 rfl ?_
                                                                          refine V_iadd hC dL_law_1219 ?_
                                                                          refine V_scrald dL_law_1220 ?_
                                                                          refine V_cko (fun hm => V_callV_I (c := 3) (As := [.int (xs (Int32.toNatClampNeg (v4 + 1)))]) (rest := [.int r_68]) (d' := 2) hC dL_law_1221 1 (lw_V q1841 q1842 q1843 q87 q1844) (by decide +kernel) (List.mem_singleton.mp hm) (by decide) (by decide) rfl rfl rfl (Nat.le_of_ble_eq_true rfl) (Nat.le_trans (by decide) hd) (by decide) vLP_l (fun _ h => c_X3_shares (Nat.le_refl _) h) (fun r_69 σ_72 => ?_))
                                                                          refine V_icmp_eq (tgt := 1694) hC dL_law_1224 (by decide) ?_ ?_
                                                                          · exact hk σ_72
                                                                          · refine V_iconst (v := 0) hC dL_law_1227 rfl ?_
                                                                            exact V_lret dL_law_1228 rfl
                                                                        · skip
                                                                          refine V_if (fun hx => ?_) (fun h_33 => ?_)
                                                                          · refine V_tin 33 (off := 1190) (tgt := 1229) hC dL_law_39 hx (by decide) (by decide) (by decide) (by decide) ?_
                                                                            refine V_aload_n hC dL_law_1229 rfl ?_
                                                                            refine V_aload_n hC dL_law_1230 rfl ?_
                                                                            refine V_iload hC dL_law_1231 rfl ?_
                                                                            refine V_iconst (v := 1) hC dL_law_1233 rfl ?_
                                                                            refine V_iadd hC dL_law_1234 ?_
                                                                            refine V_scrald dL_law_1235 ?_
                                                                            refine V_cko (fun hm => V_callV_I (c := 1) (As := [.int (xs (Int32.toNatClampNeg (v4 + 1)))]) (rest := []) (d' := 1) hC dL_law_1236 1 (lw_V q1095 q1096 q1097 q85 q1098) (by decide +kernel) (List.mem_singleton.mp hm) (by decide) (by decide) rfl rfl rfl (Nat.le_of_ble_eq_true rfl) (Nat.le_trans (by decide) hd) (by decide) vLP_l (fun _ h => c_X1_fast (Nat.le_refl _) h) (fun r_70 σ_73 => ?_))
                                                                            refine V_aload_n hC dL_law_1239 rfl ?_
                                                                            refine V_aload_n hC dL_law_1240 rfl ?_
                                                                            refine V_iload hC dL_law_1241 rfl ?_
                                                                            refine V_iconst (v := 1) hC dL_law_1243 rfl ?_
                                                                            refine V_iadd hC dL_law_1244 ?_
                                                                            refine V_scrald dL_law_1245 ?_
                                                                            refine V_cko (fun hm => V_callV_I (c := 3) (As := [.int (xs (Int32.toNatClampNeg (v4 + 1)))]) (rest := [.int r_70]) (d' := 1) hC dL_law_1246 1 (lw_V q1858 q1859 q1860 q87 q1861) (by decide +kernel) (List.mem_singleton.mp hm) (by decide) (by decide) rfl rfl rfl (Nat.le_of_ble_eq_true rfl) (Nat.le_trans (by decide) hd) (by decide) vLP_l (fun _ h => c_X3_fast (Nat.le_refl _) h) (fun r_71 σ_74 => ?_))
                                                                            refine V_icmp_eq (tgt := 1694) hC dL_law_1249 (by decide) ?_ ?_
                                                                            · exact hk σ_74
                                                                            · refine V_iconst (v := 0) hC dL_law_1252 rfl ?_
                                                                              exact V_lret dL_law_1253 rfl
                                                                          · skip
                                                                            refine V_if (fun hx => ?_) (fun h_34 => ?_)
                                                                            · refine V_tin 34 (off := 1215) (tgt := 1254) hC dL_law_39 hx (by decide) (by decide) (by decide) (by decide) ?_
                                                                              refine V_aload_n hC dL_law_1254 rfl ?_
                                                                              refine V_aload_n hC dL_law_1255 rfl ?_
                                                                              refine V_iload hC dL_law_1256 rfl ?_
                                                                              refine V_iconst (v := 1) hC dL_law_1258 rfl ?_
                                                                              refine V_iadd hC dL_law_1259 ?_
                                                                              refine V_scrald dL_law_1260 ?_
                                                                              refine V_aload_n hC dL_law_1261 rfl ?_
                                                                              refine V_iload hC dL_law_1262 rfl ?_
                                                                              refine V_iconst (v := 2) hC dL_law_1264 rfl ?_
                                                                              refine V_iadd hC dL_law_1265 ?_
                                                                              refine V_scrald dL_law_1266 ?_
                                                                              refine V_cko (fun hm => V_callV_I (c := 1) (As := [.int (xs (Int32.toNatClampNeg (v4 + 1))), .int (xs (Int32.toNatClampNeg (v4 + 2)))]) (rest := []) (d' := 1) hC dL_law_1267 2 (lw_V q1099 q1100 q1101 q85 q1102) (by decide +kernel) (List.mem_singleton.mp hm) (by decide) (by decide) rfl rfl rfl (Nat.le_of_ble_eq_true rfl) (Nat.le_trans (by decide) hd) (by decide) vLP_l (fun _ h => c_X1_seen (Nat.le_refl _) h) (fun r_72 σ_75 => ?_))
                                                                              refine V_aload_n hC dL_law_1270 rfl ?_
                                                                              refine V_aload_n hC dL_law_1271 rfl ?_
                                                                              refine V_iload hC dL_law_1272 rfl ?_
                                                                              refine V_iconst (v := 1) hC dL_law_1274 rfl ?_
                                                                              refine V_iadd hC dL_law_1275 ?_
                                                                              refine V_scrald dL_law_1276 ?_
                                                                              refine V_aload_n hC dL_law_1277 rfl ?_
                                                                              refine V_iload hC dL_law_1278 rfl ?_
                                                                              refine V_iconst (v := 2) hC dL_law_1280 rfl ?_
                                                                              refine V_iadd hC dL_law_1281 ?_
                                                                              refine V_scrald dL_law_1282 ?_
                                                                              refine V_cko (fun hm => V_callV_I (c := 3) (As := [.int (xs (Int32.toNatClampNeg (v4 + 1))), .int (xs (Int32.toNatClampNeg (v4 + 2)))]) (rest := [.int r_72]) (d' := 1) hC dL_law_1283 2 (lw_V q1862 q1863 q1864 q87 q1865) (by decide +kernel) (List.mem_singleton.mp hm) (by decide) (by decide) rfl rfl rfl (Nat.le_of_ble_eq_true rfl) (Nat.le_trans (by decide) hd) (by decide) vLP_l (fun _ h => c_X3_seen (Nat.le_refl _) h) (fun r_73 σ_76 => ?_))
                                                                              refine V_icmp_eq (tgt := 1694) hC dL_law_1286 (by decide) ?_ ?_
                                                                              · exact hk σ_76
                                                                              · refine V_iconst (v := 0) hC dL_law_1289 rfl ?_
                                                                                exact V_lret dL_law_1290 rfl
                                                                            · skip
                                                                              refine V_if (fun hx => ?_) (fun h_35 => ?_)
                                                                              · refine V_tin 35 (off := 1252) (tgt := 1291) hC dL_law_39 hx (by decide) (by decide) (by decide) (by decide) ?_
                                                                                refine V_aload_n hC dL_law_1291 rfl ?_
                                                                                refine V_cko (fun hm => V_callV_I (c := 1) (As := []) (rest := []) (d' := 0) hC dL_law_1292 0 (lw_V q1104 q1105 q1106 q85 q1107) (by decide +kernel) (List.mem_singleton.mp hm) (by decide) (by decide) rfl rfl rfl (Nat.le_of_ble_eq_true rfl) (Nat.le_trans (by decide) hd) (by decide) vLP_l (fun _ h => c_X1_forget (Nat.le_refl _) h) (fun r_74 σ_77 => ?_))
                                                                                refine V_aload_n hC dL_law_1295 rfl ?_
                                                                                refine V_cko (fun hm => V_callV_I (c := 3) (As := []) (rest := [.int r_74]) (d' := 0) hC dL_law_1296 0 (lw_V q1872 q1873 q1874 q87 q1875) (by decide +kernel) (List.mem_singleton.mp hm) (by decide) (by decide) rfl rfl rfl (Nat.le_of_ble_eq_true rfl) (Nat.le_trans (by decide) hd) (by decide) vLP_l (fun _ h => c_X3_forget (Nat.le_refl _) h) (fun r_75 σ_78 => ?_))
                                                                                refine V_icmp_eq (tgt := 1694) hC dL_law_1299 (by decide) ?_ ?_
                                                                                · exact hk σ_78
                                                                                · refine V_iconst (v := 0) hC dL_law_1302 rfl ?_
                                                                                  exact V_lret dL_law_1303 rfl
                                                                              · skip
                                                                                refine V_if (fun hx => ?_) (fun h_36 => ?_)
                                                                                · refine V_tin 36 (off := 1265) (tgt := 1304) hC dL_law_39 hx (by decide) (by decide) (by decide) (by decide) ?_
                                                                                  refine V_aload_n hC dL_law_1304 rfl ?_
                                                                                  refine V_cko (fun hm => V_callV_I (c := 1) (As := []) (rest := []) (d' := 3) hC dL_law_1305 0 (lw_V q1108 q1109 q1110 q85 q1111) (by decide +kernel) (List.mem_singleton.mp hm) (by decide) (by decide) rfl rfl rfl (Nat.le_of_ble_eq_true rfl) (Nat.le_trans (by decide) hd) (by decide) vLP_l (fun _ h => c_X1_ordered (Nat.le_refl _) h) (fun r_76 σ_79 => ?_))
                                                                                  refine V_aload_n hC dL_law_1308 rfl ?_
                                                                                  refine V_cko (fun hm => V_callV_I (c := 3) (As := []) (rest := [.int r_76]) (d' := 3) hC dL_law_1309 0 (lw_V q1876 q1877 q1878 q87 q1879) (by decide +kernel) (List.mem_singleton.mp hm) (by decide) (by decide) rfl rfl rfl (Nat.le_of_ble_eq_true rfl) (Nat.le_trans (by decide) hd) (by decide) vLP_l (fun _ h => c_X3_ordered (Nat.le_refl _) h) (fun r_77 σ_80 => ?_))
                                                                                  refine V_icmp_eq (tgt := 1694) hC dL_law_1312 (by decide) ?_ ?_
                                                                                  · exact hk σ_80
                                                                                  · refine V_iconst (v := 0) hC dL_law_1315 rfl ?_
                                                                                    exact V_lret dL_law_1316 rfl
                                                                                · skip
                                                                                  refine V_if (fun hx => ?_) (fun h_37 => ?_)
                                                                                  · refine V_tin 37 (off := 1278) (tgt := 1317) hC dL_law_39 hx (by decide) (by decide) (by decide) (by decide) ?_
                                                                                    refine V_aload_n hC dL_law_1317 rfl ?_
                                                                                    refine V_cko (fun hm => V_callV_I (c := 1) (As := []) (rest := []) (d' := 3) hC dL_law_1318 0 (lw_V q1136 q1137 q1138 q85 q1139) (by decide +kernel) (List.mem_singleton.mp hm) (by decide) (by decide) rfl rfl rfl (Nat.le_of_ble_eq_true rfl) (Nat.le_trans (by decide) hd) (by decide) vLP_l (fun _ h => c_X1_unsure (Nat.le_refl _) h) (fun r_78 σ_81 => ?_))
                                                                                    refine V_aload_n hC dL_law_1321 rfl ?_
                                                                                    refine V_cko (fun hm => V_callV_I (c := 3) (As := []) (rest := [.int r_78]) (d' := 3) hC dL_law_1322 0 (lw_V q1892 q1893 q1894 q87 q1895) (by decide +kernel) (List.mem_singleton.mp hm) (by decide) (by decide) rfl rfl rfl (Nat.le_of_ble_eq_true rfl) (Nat.le_trans (by decide) hd) (by decide) vLP_l (fun _ h => c_X3_unsure (Nat.le_refl _) h) (fun r_79 σ_82 => ?_))
                                                                                    refine V_icmp_eq (tgt := 1694) hC dL_law_1325 (by decide) ?_ ?_
                                                                                    · exact hk σ_82
                                                                                    · refine V_iconst (v := 0) hC dL_law_1328 rfl ?_
                                                                                      exact V_lret dL_law_1329 rfl
                                                                                  · skip
                                                                                    refine V_if (fun hx => ?_) (fun h_38 => ?_)
                                                                                    · refine V_tin 38 (off := 1291) (tgt := 1330) hC dL_law_39 hx (by decide) (by decide) (by decide) (by decide) ?_
                                                                                      refine V_aload_n hC dL_law_1330 rfl ?_
                                                                                      refine V_aload_n hC dL_law_1331 rfl ?_
                                                                                      refine V_iload hC dL_law_1332 rfl ?_
                                                                                      refine V_iconst (v := 1) hC dL_law_1334 rfl ?_
                                                                                      refine V_iadd hC dL_law_1335 ?_
                                                                                      refine V_scrald dL_law_1336 ?_
                                                                                      refine V_aload_n hC dL_law_1337 rfl ?_
                                                                                      refine V_iload hC dL_law_1338 rfl ?_
                                                                                      refine V_iconst (v := 2) hC dL_law_1340 rfl ?_
                                                                                      refine V_iadd hC dL_law_1341 ?_
                                                                                      refine V_scrald dL_law_1342 ?_
                                                                                      refine V_cko (fun hm => V_callV_I (c := 1) (As := [.int (xs (Int32.toNatClampNeg (v4 + 1))), .int (xs (Int32.toNatClampNeg (v4 + 2)))]) (rest := []) (d' := 1) hC dL_law_1343 2 (lw_V q1144 q1145 q1146 q85 q1147) (by decide +kernel) (List.mem_singleton.mp hm) (by decide) (by decide) rfl rfl rfl (Nat.le_of_ble_eq_true rfl) (Nat.le_trans (by decide) hd) (by decide) vLP_l (fun _ h => c_X1_boy (Nat.le_refl _) h) (fun r_80 σ_83 => ?_))
                                                                                      refine V_aload_n hC dL_law_1346 rfl ?_
                                                                                      refine V_aload_n hC dL_law_1347 rfl ?_
                                                                                      refine V_iload hC dL_law_1348 rfl ?_
                                                                                      refine V_iconst (v := 1) hC dL_law_1350 rfl ?_
                                                                                      refine V_iadd hC dL_law_1351 ?_
                                                                                      refine V_scrald dL_law_1352 ?_
                                                                                      refine V_aload_n hC dL_law_1353 rfl ?_
                                                                                      refine V_iload hC dL_law_1354 rfl ?_
                                                                                      refine V_iconst (v := 2) hC dL_law_1356 rfl ?_
                                                                                      refine V_iadd hC dL_law_1357 ?_
                                                                                      refine V_scrald dL_law_1358 ?_
                                                                                      refine V_cko (fun hm => V_callV_I (c := 3) (As := [.int (xs (Int32.toNatClampNeg (v4 + 1))), .int (xs (Int32.toNatClampNeg (v4 + 2)))]) (rest := [.int r_80]) (d' := 2) hC dL_law_1359 2 (lw_V q1896 q1897 q1898 q87 q1899) (by decide +kernel) (List.mem_singleton.mp hm) (by decide) (by decide) rfl rfl rfl (Nat.le_of_ble_eq_true rfl) (Nat.le_trans (by decide) hd) (by decide) vLP_l (fun _ h => c_X3_boy (Nat.le_refl _) h) (fun r_81 σ_84 => ?_))
                                                                                      refine V_icmp_eq (tgt := 1694) hC dL_law_1362 (by decide) ?_ ?_
                                                                                      · exact hk σ_84
                                                                                      · refine V_iconst (v := 0) hC dL_law_1365 rfl ?_
                                                                                        exact V_lret dL_law_1366 rfl
                                                                                    · skip
                                                                                      refine V_if (fun hx => ?_) (fun h_39 => ?_)
                                                                                      · refine V_tin 39 (off := 1328) (tgt := 1367) hC dL_law_39 hx (by decide) (by decide) (by decide) (by decide) ?_
                                                                                        refine V_aload_n hC dL_law_1367 rfl ?_
                                                                                        refine V_aload_n hC dL_law_1368 rfl ?_
                                                                                        refine V_iload hC dL_law_1369 rfl ?_
                                                                                        refine V_iconst (v := 1) hC dL_law_1371 rfl ?_
                                                                                        refine V_iadd hC dL_law_1372 ?_
                                                                                        refine V_scrald dL_law_1373 ?_
                                                                                        refine V_cko (fun hm => V_callV_I (c := 1) (As := [.int (xs (Int32.toNatClampNeg (v4 + 1)))]) (rest := []) (d' := 1) hC dL_law_1374 1 (lw_V q1155 q1156 q1157 q85 q1158) (by decide +kernel) (List.mem_singleton.mp hm) (by decide) (by decide) rfl rfl rfl (Nat.le_of_ble_eq_true rfl) (Nat.le_trans (by decide) hd) (by decide) vLP_l (fun _ h => c_X1_meets (Nat.le_refl _) h) (fun r_82 σ_85 => ?_))
                                                                                        refine V_aload_n hC dL_law_1377 rfl ?_
                                                                                        refine V_aload_n hC dL_law_1378 rfl ?_
                                                                                        refine V_iload hC dL_law_1379 rfl ?_
                                                                                        refine V_iconst (v := 1) hC dL_law_1381 rfl ?_
                                                                                        refine V_iadd hC dL_law_1382 ?_
                                                                                        refine V_scrald dL_law_1383 ?_
                                                                                        refine V_cko (fun hm => V_callV_I (c := 3) (As := [.int (xs (Int32.toNatClampNeg (v4 + 1)))]) (rest := [.int r_82]) (d' := 2) hC dL_law_1384 1 (lw_V q1913 q1914 q1915 q87 q1916) (by decide +kernel) (List.mem_singleton.mp hm) (by decide) (by decide) rfl rfl rfl (Nat.le_of_ble_eq_true rfl) (Nat.le_trans (by decide) hd) (by decide) vLP_l (fun _ h => c_X3_meets (Nat.le_refl _) h) (fun r_83 σ_86 => ?_))
                                                                                        refine V_icmp_eq (tgt := 1694) hC dL_law_1387 (by decide) ?_ ?_
                                                                                        · exact hk σ_86
                                                                                        · refine V_iconst (v := 0) hC dL_law_1390 rfl ?_
                                                                                          exact V_lret dL_law_1391 rfl
                                                                                      · skip
                                                                                        refine V_if (fun hx => ?_) (fun h_40 => ?_)
                                                                                        · refine V_tin 40 (off := 1353) (tgt := 1392) hC dL_law_39 hx (by decide) (by decide) (by decide) (by decide) ?_
                                                                                          refine V_aload_n hC dL_law_1392 rfl ?_
                                                                                          refine V_aload_n hC dL_law_1393 rfl ?_
                                                                                          refine V_iload hC dL_law_1394 rfl ?_
                                                                                          refine V_iconst (v := 1) hC dL_law_1396 rfl ?_
                                                                                          refine V_iadd hC dL_law_1397 ?_
                                                                                          refine V_scrald dL_law_1398 ?_
                                                                                          refine V_aload_n hC dL_law_1399 rfl ?_
                                                                                          refine V_iload hC dL_law_1400 rfl ?_
                                                                                          refine V_iconst (v := 2) hC dL_law_1402 rfl ?_
                                                                                          refine V_iadd hC dL_law_1403 ?_
                                                                                          refine V_scrald dL_law_1404 ?_
                                                                                          refine V_cko (fun hm => V_callV_I (c := 1) (As := [.int (xs (Int32.toNatClampNeg (v4 + 1))), .int (xs (Int32.toNatClampNeg (v4 + 2)))]) (rest := []) (d' := 102) hC dL_law_1405 2 (lw_V q1159 q1160 q1161 q85 q1162) (by decide +kernel) (List.mem_singleton.mp hm) (by decide) (by decide) rfl rfl rfl (Nat.le_of_ble_eq_true rfl) (Nat.le_trans (by decide) hd) (by decide) vLP_l (fun _ h => c_X1_knows (Nat.le_refl _) h) (fun r_84 σ_87 => ?_))
                                                                                          refine V_aload_n hC dL_law_1408 rfl ?_
                                                                                          refine V_aload_n hC dL_law_1409 rfl ?_
                                                                                          refine V_iload hC dL_law_1410 rfl ?_
                                                                                          refine V_iconst (v := 1) hC dL_law_1412 rfl ?_
                                                                                          refine V_iadd hC dL_law_1413 ?_
                                                                                          refine V_scrald dL_law_1414 ?_
                                                                                          refine V_aload_n hC dL_law_1415 rfl ?_
                                                                                          refine V_iload hC dL_law_1416 rfl ?_
                                                                                          refine V_iconst (v := 2) hC dL_law_1418 rfl ?_
                                                                                          refine V_iadd hC dL_law_1419 ?_
                                                                                          refine V_scrald dL_law_1420 ?_
                                                                                          refine V_cko (fun hm => V_callV_I (c := 3) (As := [.int (xs (Int32.toNatClampNeg (v4 + 1))), .int (xs (Int32.toNatClampNeg (v4 + 2)))]) (rest := [.int r_84]) (d' := 102) hC dL_law_1421 2 (lw_V q1917 q1918 q1919 q87 q1920) (by decide +kernel) (List.mem_singleton.mp hm) (by decide) (by decide) rfl rfl rfl (Nat.le_of_ble_eq_true rfl) (Nat.le_trans (by decide) hd) (by decide) vLP_l (fun _ h => c_X3_knows (Nat.le_refl _) h) (fun r_85 σ_88 => ?_))
                                                                                          refine V_icmp_eq (tgt := 1694) hC dL_law_1424 (by decide) ?_ ?_
                                                                                          · exact hk σ_88
                                                                                          · refine V_iconst (v := 0) hC dL_law_1427 rfl ?_
                                                                                            exact V_lret dL_law_1428 rfl
                                                                                        · skip
                                                                                          refine V_if (fun hx => ?_) (fun h_41 => ?_)
                                                                                          · refine V_tin 41 (off := 1390) (tgt := 1429) hC dL_law_39 hx (by decide) (by decide) (by decide) (by decide) ?_
                                                                                            refine V_aload_n hC dL_law_1429 rfl ?_
                                                                                            refine V_aload_n hC dL_law_1430 rfl ?_
                                                                                            refine V_iload hC dL_law_1431 rfl ?_
                                                                                            refine V_iconst (v := 1) hC dL_law_1433 rfl ?_
                                                                                            refine V_iadd hC dL_law_1434 ?_
                                                                                            refine V_scrald dL_law_1435 ?_
                                                                                            refine V_aload_n hC dL_law_1436 rfl ?_
                                                                                            refine V_iload hC dL_law_1437 rfl ?_
                                                                                            refine V_iconst (v := 2) hC dL_law_1439 rfl ?_
                                                                                            refine V_iadd hC dL_law_1440 ?_
                                                                                            refine V_scrald dL_law_1441 ?_
                                                                                            refine V_aload_n hC dL_law_1442 rfl ?_
                                                                                            refine V_iload hC dL_law_1443 rfl ?_
                                                                                            refine V_iconst (v := 3) hC dL_law_1445 rfl ?_
                                                                                            refine V_iadd hC dL_law_1446 ?_
                                                                                            refine V_scrald dL_law_1447 ?_
                                                                                            refine V_cko (fun hm => V_callV_I (c := 1) (As := [.int (xs (Int32.toNatClampNeg (v4 + 1))), .int (xs (Int32.toNatClampNeg (v4 + 2))), .int (xs (Int32.toNatClampNeg (v4 + 3)))]) (rest := []) (d' := 2) hC dL_law_1448 3 (lw_V q1163 q1164 q1165 q85 q1166) (by decide +kernel) (List.mem_singleton.mp hm) (by decide) (by decide) rfl rfl rfl (Nat.le_of_ble_eq_true rfl) (Nat.le_trans (by decide) hd) (by decide) vLP_l (fun _ h => c_X1_mutiny (Nat.le_refl _) h) (fun r_86 σ_89 => ?_))
                                                                                            refine V_aload_n hC dL_law_1451 rfl ?_
                                                                                            refine V_aload_n hC dL_law_1452 rfl ?_
                                                                                            refine V_iload hC dL_law_1453 rfl ?_
                                                                                            refine V_iconst (v := 1) hC dL_law_1455 rfl ?_
                                                                                            refine V_iadd hC dL_law_1456 ?_
                                                                                            refine V_scrald dL_law_1457 ?_
                                                                                            refine V_aload_n hC dL_law_1458 rfl ?_
                                                                                            refine V_iload hC dL_law_1459 rfl ?_
                                                                                            refine V_iconst (v := 2) hC dL_law_1461 rfl ?_
                                                                                            refine V_iadd hC dL_law_1462 ?_
                                                                                            refine V_scrald dL_law_1463 ?_
                                                                                            refine V_aload_n hC dL_law_1464 rfl ?_
                                                                                            refine V_iload hC dL_law_1465 rfl ?_
                                                                                            refine V_iconst (v := 3) hC dL_law_1467 rfl ?_
                                                                                            refine V_iadd hC dL_law_1468 ?_
                                                                                            refine V_scrald dL_law_1469 ?_
                                                                                            refine V_cko (fun hm => V_callV_I (c := 3) (As := [.int (xs (Int32.toNatClampNeg (v4 + 1))), .int (xs (Int32.toNatClampNeg (v4 + 2))), .int (xs (Int32.toNatClampNeg (v4 + 3)))]) (rest := [.int r_86]) (d' := 2) hC dL_law_1470 3 (lw_V q1921 q1922 q1923 q87 q1924) (by decide +kernel) (List.mem_singleton.mp hm) (by decide) (by decide) rfl rfl rfl (Nat.le_of_ble_eq_true rfl) (Nat.le_trans (by decide) hd) (by decide) vLP_l (fun _ h => c_X3_mutiny (Nat.le_refl _) h) (fun r_87 σ_90 => ?_))
                                                                                            refine V_icmp_eq (tgt := 1694) hC dL_law_1473 (by decide) ?_ ?_
                                                                                            · exact hk σ_90
                                                                                            · refine V_iconst (v := 0) hC dL_law_1476 rfl ?_
                                                                                              exact V_lret dL_law_1477 rfl
                                                                                          · skip
                                                                                            refine V_if (fun hx => ?_) (fun h_42 => ?_)
                                                                                            · refine V_tin 42 (off := 1439) (tgt := 1478) hC dL_law_39 hx (by decide) (by decide) (by decide) (by decide) ?_
                                                                                              refine V_aload_n hC dL_law_1478 rfl ?_
                                                                                              refine V_aload_n hC dL_law_1479 rfl ?_
                                                                                              refine V_iload hC dL_law_1480 rfl ?_
                                                                                              refine V_iconst (v := 1) hC dL_law_1482 rfl ?_
                                                                                              refine V_iadd hC dL_law_1483 ?_
                                                                                              refine V_scrald dL_law_1484 ?_
                                                                                              refine V_aload_n hC dL_law_1485 rfl ?_
                                                                                              refine V_iload hC dL_law_1486 rfl ?_
                                                                                              refine V_iconst (v := 2) hC dL_law_1488 rfl ?_
                                                                                              refine V_iadd hC dL_law_1489 ?_
                                                                                              refine V_scrald dL_law_1490 ?_
                                                                                              refine V_aload_n hC dL_law_1491 rfl ?_
                                                                                              refine V_iload hC dL_law_1492 rfl ?_
                                                                                              refine V_iconst (v := 3) hC dL_law_1494 rfl ?_
                                                                                              refine V_iadd hC dL_law_1495 ?_
                                                                                              refine V_scrald dL_law_1496 ?_
                                                                                              refine V_cko (fun hm => V_callV_I (c := 1) (As := [.int (xs (Int32.toNatClampNeg (v4 + 1))), .int (xs (Int32.toNatClampNeg (v4 + 2))), .int (xs (Int32.toNatClampNeg (v4 + 3)))]) (rest := []) (d' := 611) hC dL_law_1497 3 (lw_V q1175 q1176 q1177 q85 q1178) (by decide +kernel) (List.mem_singleton.mp hm) (by decide) (by decide) rfl rfl rfl (Nat.le_of_ble_eq_true rfl) (Nat.le_trans (by decide) hd) (by decide) vLP_l (fun _ h => c_X1_chance (Nat.le_refl _) h0 h) (fun r_88 σ_91 => ?_))
                                                                                              refine V_aload_n hC dL_law_1500 rfl ?_
                                                                                              refine V_aload_n hC dL_law_1501 rfl ?_
                                                                                              refine V_iload hC dL_law_1502 rfl ?_
                                                                                              refine V_iconst (v := 1) hC dL_law_1504 rfl ?_
                                                                                              refine V_iadd hC dL_law_1505 ?_
                                                                                              refine V_scrald dL_law_1506 ?_
                                                                                              refine V_aload_n hC dL_law_1507 rfl ?_
                                                                                              refine V_iload hC dL_law_1508 rfl ?_
                                                                                              refine V_iconst (v := 2) hC dL_law_1510 rfl ?_
                                                                                              refine V_iadd hC dL_law_1511 ?_
                                                                                              refine V_scrald dL_law_1512 ?_
                                                                                              refine V_aload_n hC dL_law_1513 rfl ?_
                                                                                              refine V_iload hC dL_law_1514 rfl ?_
                                                                                              refine V_iconst (v := 3) hC dL_law_1516 rfl ?_
                                                                                              refine V_iadd hC dL_law_1517 ?_
                                                                                              refine V_scrald dL_law_1518 ?_
                                                                                              refine V_cko (fun hm => V_callV_I (c := 3) (As := [.int (xs (Int32.toNatClampNeg (v4 + 1))), .int (xs (Int32.toNatClampNeg (v4 + 2))), .int (xs (Int32.toNatClampNeg (v4 + 3)))]) (rest := [.int r_88]) (d' := 102) hC dL_law_1519 3 (lw_V q1933 q1934 q1935 q87 q1936) (by decide +kernel) (List.mem_singleton.mp hm) (by decide) (by decide) rfl rfl rfl (Nat.le_of_ble_eq_true rfl) (Nat.le_trans (by decide) hd) (by decide) vLP_l (fun _ h => c_X3_chance (Nat.le_refl _) h) (fun r_89 σ_92 => ?_))
                                                                                              refine V_icmp_eq (tgt := 1694) hC dL_law_1522 (by decide) ?_ ?_
                                                                                              · exact hk σ_92
                                                                                              · refine V_iconst (v := 0) hC dL_law_1525 rfl ?_
                                                                                                exact V_lret dL_law_1526 rfl
                                                                                            · skip
                                                                                              refine V_if (fun hx => ?_) (fun h_43 => ?_)
                                                                                              · refine V_tin 43 (off := 1488) (tgt := 1527) hC dL_law_39 hx (by decide) (by decide) (by decide) (by decide) ?_
                                                                                                refine V_aload_n hC dL_law_1527 rfl ?_
                                                                                                refine V_aload_n hC dL_law_1528 rfl ?_
                                                                                                refine V_iload hC dL_law_1529 rfl ?_
                                                                                                refine V_iconst (v := 1) hC dL_law_1531 rfl ?_
                                                                                                refine V_iadd hC dL_law_1532 ?_
                                                                                                refine V_scrald dL_law_1533 ?_
                                                                                                refine V_aload_n hC dL_law_1534 rfl ?_
                                                                                                refine V_iload hC dL_law_1535 rfl ?_
                                                                                                refine V_iconst (v := 2) hC dL_law_1537 rfl ?_
                                                                                                refine V_iadd hC dL_law_1538 ?_
                                                                                                refine V_scrald dL_law_1539 ?_
                                                                                                refine V_cko (fun hm => V_callV_I (c := 1) (As := [.int (xs (Int32.toNatClampNeg (v4 + 1))), .int (xs (Int32.toNatClampNeg (v4 + 2)))]) (rest := []) (d' := 611) hC dL_law_1540 2 (lw_V q1179 q1180 q1181 q85 q1182) (by decide +kernel) (List.mem_singleton.mp hm) (by decide) (by decide) rfl rfl rfl (Nat.le_of_ble_eq_true rfl) (Nat.le_trans (by decide) hd) (by decide) vLP_l (fun _ h => c_X1_voyages (Nat.le_refl _) h0 h) (fun r_90 σ_93 => ?_))
                                                                                                refine V_aload_n hC dL_law_1543 rfl ?_
                                                                                                refine V_aload_n hC dL_law_1544 rfl ?_
                                                                                                refine V_iload hC dL_law_1545 rfl ?_
                                                                                                refine V_iconst (v := 1) hC dL_law_1547 rfl ?_
                                                                                                refine V_iadd hC dL_law_1548 ?_
                                                                                                refine V_scrald dL_law_1549 ?_
                                                                                                refine V_aload_n hC dL_law_1550 rfl ?_
                                                                                                refine V_iload hC dL_law_1551 rfl ?_
                                                                                                refine V_iconst (v := 2) hC dL_law_1553 rfl ?_
                                                                                                refine V_iadd hC dL_law_1554 ?_
                                                                                                refine V_scrald dL_law_1555 ?_
                                                                                                refine V_cko (fun hm => V_callV_I (c := 3) (As := [.int (xs (Int32.toNatClampNeg (v4 + 1))), .int (xs (Int32.toNatClampNeg (v4 + 2)))]) (rest := [.int r_90]) (d' := 5) hC dL_law_1556 2 (lw_V q1937 q1938 q1939 q87 q1940) (by decide +kernel) (List.mem_singleton.mp hm) (by decide) (by decide) rfl rfl rfl (Nat.le_of_ble_eq_true rfl) (Nat.le_trans (by decide) hd) (by decide) vLP_l (fun _ h => c_X3_voyages (Nat.le_refl _) h) (fun r_91 σ_94 => ?_))
                                                                                                refine V_icmp_eq (tgt := 1694) hC dL_law_1559 (by decide) ?_ ?_
                                                                                                · exact hk σ_94
                                                                                                · refine V_iconst (v := 0) hC dL_law_1562 rfl ?_
                                                                                                  exact V_lret dL_law_1563 rfl
                                                                                              · skip
                                                                                                refine V_if (fun hx => ?_) (fun h_44 => ?_)
                                                                                                · refine V_tin 44 (off := 1525) (tgt := 1564) hC dL_law_39 hx (by decide) (by decide) (by decide) (by decide) ?_
                                                                                                  refine V_aload_n hC dL_law_1564 rfl ?_
                                                                                                  refine V_aload_n hC dL_law_1565 rfl ?_
                                                                                                  refine V_iload hC dL_law_1566 rfl ?_
                                                                                                  refine V_iconst (v := 1) hC dL_law_1568 rfl ?_
                                                                                                  refine V_iadd hC dL_law_1569 ?_
                                                                                                  refine V_scrald dL_law_1570 ?_
                                                                                                  refine V_cko (fun hm => V_callV_I (c := 1) (As := [.int (xs (Int32.toNatClampNeg (v4 + 1)))]) (rest := []) (d' := 2) hC dL_law_1571 1 (lw_V q1184 q1185 q1186 q85 q1187) (by decide +kernel) (List.mem_singleton.mp hm) (by decide) (by decide) rfl rfl rfl (Nat.le_of_ble_eq_true rfl) (Nat.le_trans (by decide) hd) (by decide) vLP_l (fun _ h => c_X1_keep (Nat.le_refl _) h) (fun r_92 σ_95 => ?_))
                                                                                                  refine V_aload_n hC dL_law_1574 rfl ?_
                                                                                                  refine V_aload_n hC dL_law_1575 rfl ?_
                                                                                                  refine V_iload hC dL_law_1576 rfl ?_
                                                                                                  refine V_iconst (v := 1) hC dL_law_1578 rfl ?_
                                                                                                  refine V_iadd hC dL_law_1579 ?_
                                                                                                  refine V_scrald dL_law_1580 ?_
                                                                                                  refine V_cko (fun hm => V_callV_I (c := 3) (As := [.int (xs (Int32.toNatClampNeg (v4 + 1)))]) (rest := [.int r_92]) (d' := 1) hC dL_law_1581 1 (lw_V q1942 q1943 q1944 q87 q1945) (by decide +kernel) (List.mem_singleton.mp hm) (by decide) (by decide) rfl rfl rfl (Nat.le_of_ble_eq_true rfl) (Nat.le_trans (by decide) hd) (by decide) vLP_l (fun _ h => c_X3_keep (Nat.le_refl _) h) (fun r_93 σ_96 => ?_))
                                                                                                  refine V_icmp_eq (tgt := 1694) hC dL_law_1584 (by decide) ?_ ?_
                                                                                                  · exact hk σ_96
                                                                                                  · refine V_iconst (v := 0) hC dL_law_1587 rfl ?_
                                                                                                    exact V_lret dL_law_1588 rfl
                                                                                                · skip
                                                                                                  refine V_if (fun hx => ?_) (fun h_45 => ?_)
                                                                                                  · refine V_tin 45 (off := 1550) (tgt := 1589) hC dL_law_39 hx (by decide) (by decide) (by decide) (by decide) ?_
                                                                                                    refine V_aload_n hC dL_law_1589 rfl ?_
                                                                                                    refine V_aload_n hC dL_law_1590 rfl ?_
                                                                                                    refine V_iload hC dL_law_1591 rfl ?_
                                                                                                    refine V_iconst (v := 1) hC dL_law_1593 rfl ?_
                                                                                                    refine V_iadd hC dL_law_1594 ?_
                                                                                                    refine V_scrald dL_law_1595 ?_
                                                                                                    refine V_cko (fun hm => V_callV_I (c := 1) (As := [.int (xs (Int32.toNatClampNeg (v4 + 1)))]) (rest := []) (d' := 1) hC dL_law_1596 1 (lw_V q1208 q1209 q1210 q85 q1211) (by decide +kernel) (List.mem_singleton.mp hm) (by decide) (by decide) rfl rfl rfl (Nat.le_of_ble_eq_true rfl) (Nat.le_trans (by decide) hd) (by decide) vLP_l (fun _ h => c_X1_again (Nat.le_refl _) h) (fun r_94 σ_97 => ?_))
                                                                                                    refine V_aload_n hC dL_law_1599 rfl ?_
                                                                                                    refine V_aload_n hC dL_law_1600 rfl ?_
                                                                                                    refine V_iload hC dL_law_1601 rfl ?_
                                                                                                    refine V_iconst (v := 1) hC dL_law_1603 rfl ?_
                                                                                                    refine V_iadd hC dL_law_1604 ?_
                                                                                                    refine V_scrald dL_law_1605 ?_
                                                                                                    refine V_cko (fun hm => V_callV_I (c := 3) (As := [.int (xs (Int32.toNatClampNeg (v4 + 1)))]) (rest := [.int r_94]) (d' := 1) hC dL_law_1606 1 (lw_V q1946 q1947 q1948 q87 q1949) (by decide +kernel) (List.mem_singleton.mp hm) (by decide) (by decide) rfl rfl rfl (Nat.le_of_ble_eq_true rfl) (Nat.le_trans (by decide) hd) (by decide) vLP_l (fun _ h => c_X3_again (Nat.le_refl _) h) (fun r_95 σ_98 => ?_))
                                                                                                    refine V_icmp_eq (tgt := 1694) hC dL_law_1609 (by decide) ?_ ?_
                                                                                                    · exact hk σ_98
                                                                                                    · refine V_iconst (v := 0) hC dL_law_1612 rfl ?_
                                                                                                      exact V_lret dL_law_1613 rfl
                                                                                                  · skip
                                                                                                    refine V_if (fun hx => ?_) (fun h_46 => ?_)
                                                                                                    · refine V_tin 46 (off := 1575) (tgt := 1614) hC dL_law_39 hx (by decide) (by decide) (by decide) (by decide) ?_
                                                                                                      refine V_aload_n hC dL_law_1614 rfl ?_
                                                                                                      refine V_aload_n hC dL_law_1615 rfl ?_
                                                                                                      refine V_iload hC dL_law_1616 rfl ?_
                                                                                                      refine V_iconst (v := 1) hC dL_law_1618 rfl ?_
                                                                                                      refine V_iadd hC dL_law_1619 ?_
                                                                                                      refine V_scrald dL_law_1620 ?_
                                                                                                      refine V_cko (fun hm => V_callV_PI (c := 1) (As := [.int (xs (Int32.toNatClampNeg (v4 + 1)))]) (rest := []) (d' := 1) hC dL_law_1621 1 (lw_V q1212 q1213 q1214 q85 q1215) (by decide +kernel) (List.mem_singleton.mp hm) (by decide) (by decide) rfl rfl rfl (Nat.le_of_ble_eq_true rfl) (Nat.le_trans (by decide) hd) (by decide) vLP_l (fun _ h => c_X1_count (Nat.le_refl _) h) (fun r_96 => ?_))
                                                                                                      refine V_aload_n hC dL_law_1624 rfl ?_
                                                                                                      refine V_aload_n hC dL_law_1625 rfl ?_
                                                                                                      refine V_iload hC dL_law_1626 rfl ?_
                                                                                                      refine V_iconst (v := 1) hC dL_law_1628 rfl ?_
                                                                                                      refine V_iadd hC dL_law_1629 ?_
                                                                                                      refine V_scrald dL_law_1630 ?_
                                                                                                      refine V_cko (fun hm => V_callV_I (c := 3) (As := [.int (xs (Int32.toNatClampNeg (v4 + 1)))]) (rest := [.int r_96]) (d' := 0) hC dL_law_1631 1 (lw_V q1950 q1951 q1952 q87 q1953) (by decide +kernel) (List.mem_singleton.mp hm) (by decide) (by decide) rfl rfl rfl (Nat.le_of_ble_eq_true rfl) (Nat.le_trans (by decide) hd) (by decide) vLP_l (fun _ h => c_X3_count (Nat.le_refl _) h) (fun r_97 σ_99 => ?_))
                                                                                                      refine V_icmp_eq (tgt := 1694) hC dL_law_1634 (by decide) ?_ ?_
                                                                                                      · exact hk σ_99
                                                                                                      · refine V_iconst (v := 0) hC dL_law_1637 rfl ?_
                                                                                                        exact V_lret dL_law_1638 rfl
                                                                                                    · skip
                                                                                                      refine V_if (fun hx => ?_) (fun h_47 => ?_)
                                                                                                      · refine V_tin 47 (off := 1600) (tgt := 1639) hC dL_law_39 hx (by decide) (by decide) (by decide) (by decide) ?_
                                                                                                        refine V_aload_n hC dL_law_1639 rfl ?_
                                                                                                        refine V_aload_n hC dL_law_1640 rfl ?_
                                                                                                        refine V_iload hC dL_law_1641 rfl ?_
                                                                                                        refine V_iconst (v := 1) hC dL_law_1643 rfl ?_
                                                                                                        refine V_iadd hC dL_law_1644 ?_
                                                                                                        refine V_scrald dL_law_1645 ?_
                                                                                                        refine V_aload_n hC dL_law_1646 rfl ?_
                                                                                                        refine V_wcallS_I (As := [.ref b, .int (xs (Int32.toNatClampNeg (v4 + 1))), .ref b_2]) (rest := []) (d' := 6) hC dL_law_1647 3 (lw_SW q1263 q1264 q84 q1265) (by decide +kernel) rfl rfl (Nat.le_of_ble_eq_true rfl) (Nat.le_trans (by decide) hd) (by decide) vLP_l (fun _ h => c_X0_row (Nat.le_refl _) h0 h) (fun r_98 σ_100 => ?_)
                                                                                                        refine V_istore (ls' := [some (.ref (SB + 20)), some (.ref b), some (.ref b_1), some (.ref b_2), some (.int v4), some (.int r_98), none, none]) hC dL_law_1650 (by decide) rfl rfl ?_
                                                                                                        refine V_aload_n hC dL_law_1652 rfl ?_
                                                                                                        refine V_aload_n hC dL_law_1653 rfl ?_
                                                                                                        refine V_iload hC dL_law_1654 rfl ?_
                                                                                                        refine V_iconst (v := 1) hC dL_law_1656 rfl ?_
                                                                                                        refine V_iadd hC dL_law_1657 ?_
                                                                                                        refine V_scrald dL_law_1658 ?_
                                                                                                        refine V_cko (fun hm => V_callV_L (c := 3) (As := [.int (xs (Int32.toNatClampNeg (v4 + 1)))]) (rest := []) (d' := 1) hC dL_law_1659 1 (lw_V q1954 q1955 q1956 q87 q1957) (by decide +kernel) (List.mem_singleton.mp hm) (by decide) (by decide) rfl rfl rfl (Nat.le_of_ble_eq_true rfl) (Nat.le_trans (by decide) hd) (by decide) vLP_l (fun _ h => c_X3_row (Nat.le_refl _) h) (fun r_99 σ_101 => ?_))
                                                                                                        refine V_lstore (ls' := [some (.ref (SB + 20)), some (.ref b), some (.ref b_1), some (.ref b_2), some (.int v4), some (.int r_98), some (.long r_99), none]) hC dL_law_1662 (by decide) rfl rfl ?_
                                                                                                        refine V_aload_n hC dL_law_1664 rfl ?_
                                                                                                        refine V_cko (fun hm => V_callV_PI (c := 3) (As := []) (rest := []) (d' := 0) hC dL_law_1665 0 (lw_V q1436 q1437 q1438 q87 q1439) (by decide +kernel) (List.mem_singleton.mp hm) (by decide) (by decide) rfl rfl rfl (Nat.le_of_ble_eq_true rfl) (Nat.le_trans (by decide) hd) (by decide) vLP_l (fun _ h => c_X3_thrown (Nat.le_refl _) h) (fun r_100 => ?_))
                                                                                                        refine V_iload hC dL_law_1668 rfl ?_
                                                                                                        refine V_icmp_eq (tgt := 1675) hC dL_law_1670 (by decide) ?_ ?_
                                                                                                        · refine V_iload hC dL_law_1675 rfl ?_
                                                                                                          refine V_let (B := fun k_5 => V (vLP l L xs) (vEmb eI) σ_101 1691 [some (.ref (SB + 20)), some (.ref b), some (.ref b_1), some (.ref b_2), some (.int v4), none, none, none] [] (k_5)) ?_ ?_
                                                                                                          · skip
                                                                                                            refine V_goto (tgt := 1694) hC dL_law_1691 (by decide) ?_
                                                                                                            exact hk σ_101
                                                                                                          · intro k_5 hk_5
                                                                                                            refine V_if_ne (tgt := 1691) hC dL_law_1677 (by decide) ?_ ?_
                                                                                                            · refine V_clr [5, 6] (ls' := [some (.ref (SB + 20)), some (.ref b), some (.ref b_1), some (.ref b_2), some (.int v4), none, none, none]) rfl ?_
                                                                                                              exact hk_5
                                                                                                            · refine V_aload_n hC dL_law_1680 rfl ?_
                                                                                                              refine V_iconst (v := 0) hC dL_law_1681 rfl ?_
                                                                                                              refine V_lald hC dL_law_1682 ?_
                                                                                                              refine V_lload hC dL_law_1683 rfl ?_
                                                                                                              refine V_lcmp hC dL_law_1685 ?_
                                                                                                              refine V_if_eq (tgt := 1691) hC dL_law_1686 (by decide) ?_ ?_
                                                                                                              · refine V_clr [5, 6] (ls' := [some (.ref (SB + 20)), some (.ref b), some (.ref b_1), some (.ref b_2), some (.int v4), none, none, none]) rfl ?_
                                                                                                                exact hk_5
                                                                                                              · refine V_iconst (v := 0) hC dL_law_1689 rfl ?_
                                                                                                                exact V_lret dL_law_1690 rfl
                                                                                                        · refine V_iconst (v := 0) hC dL_law_1673 rfl ?_
                                                                                                          exact V_lret dL_law_1674 rfl
                                                                                                      · skip
                                                                                                        refine V_tout (tgt := 1694) hC dL_law_39 (by have q0 := sw_ne (n := 0) h_0 (by decide); have q1 := sw_ne (n := 1) h_1 (by decide); have q2 := sw_ne (n := 2) h_2 (by decide); have q3 := sw_ne (n := 3) h_3 (by decide); have q4 := sw_ne (n := 4) h_4 (by decide); have q5 := sw_ne (n := 5) h_5 (by decide); have q6 := sw_ne (n := 6) h_6 (by decide); have q7 := sw_ne (n := 7) h_7 (by decide); have q8 := sw_ne (n := 8) h_8 (by decide); have q9 := sw_ne (n := 9) h_9 (by decide); have q10 := sw_ne (n := 10) h_10 (by decide); have q11 := sw_ne (n := 11) h_11 (by decide); have q12 := sw_ne (n := 12) h_12 (by decide); have q13 := sw_ne (n := 13) h_13 (by decide); have q14 := sw_ne (n := 14) h_14 (by decide); have q15 := sw_ne (n := 15) h_15 (by decide); have q16 := sw_ne (n := 16) h_16 (by decide); have q17 := sw_ne (n := 17) h_17 (by decide); have q18 := sw_ne (n := 18) h_18 (by decide); have q19 := sw_ne (n := 19) h_19 (by decide); have q20 := sw_ne (n := 20) h_20 (by decide); have q21 := sw_ne (n := 21) h_21 (by decide); have q22 := sw_ne (n := 22) h_22 (by decide); have q23 := sw_ne (n := 23) h_23 (by decide); have q24 := sw_ne (n := 24) h_24 (by decide); have q25 := sw_ne (n := 25) h_25 (by decide); have q26 := sw_ne (n := 26) h_26 (by decide); have q27 := sw_ne (n := 27) h_27 (by decide); have q28 := sw_ne (n := 28) h_28 (by decide); have q29 := sw_ne (n := 29) h_29 (by decide); have q30 := sw_ne (n := 30) h_30 (by decide); have q31 := sw_ne (n := 31) h_31 (by decide); have q32 := sw_ne (n := 32) h_32 (by decide); have q33 := sw_ne (n := 33) h_33 (by decide); have q34 := sw_ne (n := 34) h_34 (by decide); have q35 := sw_ne (n := 35) h_35 (by decide); have q36 := sw_ne (n := 36) h_36 (by decide); have q37 := sw_ne (n := 37) h_37 (by decide); have q38 := sw_ne (n := 38) h_38 (by decide); have q39 := sw_ne (n := 39) h_39 (by decide); have q40 := sw_ne (n := 40) h_40 (by decide); have q41 := sw_ne (n := 41) h_41 (by decide); have q42 := sw_ne (n := 42) h_42 (by decide); have q43 := sw_ne (n := 43) h_43 (by decide); have q44 := sw_ne (n := 44) h_44 (by decide); have q45 := sw_ne (n := 45) h_45 (by decide); have q46 := sw_ne (n := 46) h_46 (by decide); have q47 := sw_ne (n := 47) h_47 (by decide); omega) (by decide) ?_
                                                                                                        exact hk σ_6
theorem w_L_law {l : Launch} {L : Nat} {xs : Nat → Int32} {d : Nat} (hd : 614 ≤ d) (hd9 : d = 1600) (h0 : l.stackTraces = false) (σ : vMem) : V (vLP l L xs) (vEmb eI) σ 0 [some (.ref (SB + 20)), none, none, none, none, none, none, none] [] (f_L_law L xs σ) := by
  have hC : vPx (vLP l L xs) cL_law 8 "NobodyBeenAftLaw" (some .boolean) d := by rw [hd9]; exact vLP_cx
  refine V_eq (f_L_law.eq_1 ..) ?_
  refine V_new (c := 1) hC dL_law_0 q114 q115 q85 rfl (by decide) in_X1 tyX1 tyX1_ok (by decide +kernel) (fun b σ_1 => ?_)
  refine V_dup hC dL_law_3 rfl ?_
  refine V_callI_V (As := []) (rest := [.ref b]) (d' := 1) hC dL_law_4 0 q118 q85 q116 q117 rfl rfl (by decide +kernel) rfl rfl (Nat.le_of_ble_eq_true rfl) (Nat.le_trans (by decide) hd) (by decide) vLP_l (fun _ h => c_X1_init (Nat.le_refl _) h) (fun σ_2 => ?_)
  refine V_astore_n (ls' := [some (.ref (SB + 20)), some (.ref b), none, none, none, none, none, none]) hC dL_law_7 (by decide) rfl rfl ?_
  refine V_new (c := 3) hC dL_law_8 q1270 q1271 q87 rfl (by decide) in_X3 tyX3 tyX3_ok (by decide +kernel) (fun b_1 σ_3 => ?_)
  refine V_dup hC dL_law_11 rfl ?_
  refine V_callI_V (As := []) (rest := [.ref b_1]) (d' := 0) hC dL_law_12 0 q1274 q87 q1272 q1273 rfl rfl (by decide +kernel) rfl rfl (Nat.le_of_ble_eq_true rfl) (Nat.le_trans (by decide) hd) (by decide) vLP_l (fun _ h => c_X3_init (Nat.le_refl _) h) (fun σ_4 => ?_)
  refine V_astore_n (ls' := [some (.ref (SB + 20)), some (.ref b), some (.ref b_1), none, none, none, none, none]) hC dL_law_15 (by decide) rfl rfl ?_
  refine V_iconst (v := 1) hC dL_law_16 rfl ?_
  refine V_newa_long hC dL_law_17 q275 (fun b_2 σ_5 => ?_)
  refine V_astore_n (ls' := [some (.ref (SB + 20)), some (.ref b), some (.ref b_1), some (.ref b_2), none, none, none, none]) hC dL_law_19 (by decide) rfl rfl ?_
  refine V_iconst (v := 0) hC dL_law_20 rfl ?_
  refine V_istore (ls' := [some (.ref (SB + 20)), some (.ref b), some (.ref b_1), some (.ref b_2), some (.int 0), none, none, none]) hC dL_law_21 (by decide) rfl rfl ?_
  exact (w_L_law_23 hd hd9 h0 L xs b b_1 b_2) FU σ_5 0
