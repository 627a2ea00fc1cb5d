/-! THE START: what the law's world is at its entry -/
set_option maxRecDepth 100000
theorem st_prim {args : Array Value} {s : State} {ty : FieldType} (hty : ∀ C, ty ≠ .object C) (h : (Cond.arrayClass ty).before args s = true) : ∃ c, ArrOfT s c ty ∧ va_RA s c ty := by
  obtain ⟨c, k, comp, h1, h2, h3⟩ := Cond.arrayClass_spec h
  refine ⟨c, fun n z => ⟨fun k h => (by cases h), k, h2, comp, h3⟩, ?_⟩
  cases ty with
  | object C => exact absurd rfl (hty C)
  | _ => exact h1
theorem st_obj {args : Array Value} {s : State} {C : String} (h : (Cond.arrayOver (.object C)).before args s = true) : ∃ c, ArrOfT s c (.object C) ∧ va_RA s c (.object C) := by
  obtain ⟨comp, c, k, h1, h2, h3, h4, h5⟩ := Cond.arrayOver_spec h
  exact ⟨c, fun n z => ⟨fun k h => (by cases h), k, h3, comp, h4⟩, k, comp, h3, h4, h1, h5⟩
theorem st_aa {args : Array Value} {s : State} {t : FieldType} (h : (Cond.arrayOver (.array t)).before args s = true) : ∃ c, ArrOfT s c (.array t) ∧ va_RA s c (.array t) := by
  obtain ⟨comp, c, k, h1, h3, h4, h5⟩ := Cond.arrayOver_specA h
  exact ⟨c, fun n z => ⟨fun k h => (by cases h), k, h3, comp, h4⟩, h5⟩
theorem st_arr {args : Array Value} {s : State} (hts : ∀ w ∈ lw_tbl, w.before args s = true) : ∃ dA : Nat → ClassId, ∀ (k : Nat) (q : ClassId × FieldType), (vtys dA)[k]? = some q → ArrOfT s q.1 q.2 ∧ va_RA s q.1 q.2 := by
  obtain ⟨c101, a101⟩ := st_prim (ty := .boolean) (fun _ h => by cases h) (hts _ (lw_all_tbl q276))
  obtain ⟨c102, a102⟩ := st_prim (ty := .byte) (fun _ h => by cases h) (hts _ (lw_all_tbl q274))
  obtain ⟨c103, a103⟩ := st_prim (ty := .char) (fun _ h => by cases h) (hts _ (lw_all_tbl q799))
  obtain ⟨c104, a104⟩ := st_prim (ty := .short) (fun _ h => by cases h) (hts _ (lw_all_tbl q679))
  obtain ⟨c105, a105⟩ := st_prim (ty := .int) (fun _ h => by cases h) (hts _ (lw_all_tbl q172))
  obtain ⟨c106, a106⟩ := st_prim (ty := .long) (fun _ h => by cases h) (hts _ (lw_all_tbl q275))
  obtain ⟨c110, a110⟩ := st_obj (hts _ q173)
  obtain ⟨c111, a111⟩ := st_obj (hts _ q181)
  obtain ⟨c112, a112⟩ := st_aa (hts _ q175)
  obtain ⟨c113, a113⟩ := st_aa (hts _ q177)
  obtain ⟨c114, a114⟩ := st_aa (hts _ q179)
  refine ⟨fun k => if k = 101 then c101 else if k = 102 then c102 else if k = 103 then c103 else if k = 104 then c104 else if k = 105 then c105 else if k = 106 then c106 else if k = 110 then c110 else if k = 111 then c111 else if k = 112 then c112 else if k = 113 then c113 else if k = 114 then c114 else 0, fun k q hk => ?_⟩
  cases k with
  | zero =>
    cases hk
    exact a101
  | succ k =>
  cases k with
  | zero =>
    cases hk
    exact a102
  | succ k =>
  cases k with
  | zero =>
    cases hk
    exact a103
  | succ k =>
  cases k with
  | zero =>
    cases hk
    exact a104
  | succ k =>
  cases k with
  | zero =>
    cases hk
    exact a105
  | succ k =>
  cases k with
  | zero =>
    cases hk
    exact a106
  | succ k =>
  cases k with
  | zero =>
    cases hk
    exact a110
  | succ k =>
  cases k with
  | zero =>
    cases hk
    exact a111
  | succ k =>
  cases k with
  | zero =>
    cases hk
    exact a112
  | succ k =>
  cases k with
  | zero =>
    cases hk
    exact a113
  | succ k =>
  cases k with
  | zero =>
    cases hk
    exact a114
  | succ k =>
  simp [vtys] at hk
theorem st_cls1 {args : Array Value} {s : State} (hts : ∀ w ∈ lw_all, w.before args s = true) : ∀ q ∈ vcl, ∃ (cC : ClassId) (iS : Nat → Nat), u_Kn s q.1 q.2.1 q.2.2 cC iS := by
  exact List.forall_mem_cons.mpr ⟨u_known hts in_X2 (hts _ (q123)), List.forall_mem_cons.mpr ⟨u_known hts in_X1 (hts _ (q115)), List.forall_mem_cons.mpr ⟨u_known hts in_X2 (hts _ (q123)), List.forall_mem_cons.mpr ⟨u_known hts in_X3 (hts _ (q1271)), List.forall_mem_cons.mpr ⟨u_known hts in_X4 (hts _ (q294)), List.forall_mem_cons.mpr ⟨u_known hts in_X5 (hts _ (q321)), List.forall_mem_cons.mpr ⟨u_known hts in_X6r (hts _ (q390)), List.forall_mem_cons.mpr ⟨u_known hts in_X8 (hts _ (q476)), List.forall_mem_cons.mpr ⟨u_known hts in_X8 (hts _ (q476)), List.forall_mem_cons.mpr ⟨u_known hts in_X9 (hts _ (q540)), List.forall_mem_cons.mpr ⟨u_known hts in_X10 (hts _ (q561)), List.forall_mem_cons.mpr ⟨u_known hts in_X11 (hts _ (q777)), List.forall_mem_cons.mpr ⟨u_known hts in_X12 (hts _ (q1004)), List.forall_mem_cons.mpr ⟨u_known hts in_X13 (hts _ (q845)), List.forall_mem_cons.mpr ⟨u_known hts in_X14 (hts _ (q941)), List.forall_mem_cons.mpr ⟨u_known hts in_X15 (hts _ (q980)), List.forall_mem_cons.mpr ⟨u_known hts in_X16 (hts _ (q1188)), List.forall_mem_cons.mpr ⟨u_known hts (fun w h => by cases h) (hts _ (q1225)), List.forall_mem_cons.mpr ⟨u_known hts (fun w h => by cases h) (hts _ (q638)), List.forall_mem_cons.mpr ⟨u_known hts in_X2 (hts _ (q123)), List.forall_mem_cons.mpr ⟨u_known hts in_X2 (hts _ (q123)), List.forall_mem_cons.mpr ⟨u_known hts in_X2 (hts _ (q123)), List.forall_mem_cons.mpr ⟨u_known hts in_X2 (hts _ (q123)), List.forall_mem_cons.mpr ⟨u_known hts in_X2 (hts _ (q123)), List.forall_mem_cons.mpr ⟨u_known hts in_X2 (hts _ (q123)), List.forall_mem_cons.mpr ⟨u_known hts in_X2 (hts _ (q123)), List.forall_mem_cons.mpr ⟨u_known hts in_X2 (hts _ (q123)), List.forall_mem_cons.mpr ⟨u_known hts in_X2 (hts _ (q123)), List.forall_mem_cons.mpr ⟨u_known hts in_X2 (hts _ (q123)), List.forall_mem_cons.mpr ⟨u_known hts in_X2 (hts _ (q123)), List.forall_mem_cons.mpr ⟨u_known hts in_X2 (hts _ (q123)), List.forall_mem_cons.mpr ⟨u_known hts in_X2 (hts _ (q123)), List.forall_mem_cons.mpr ⟨u_known hts in_X2 (hts _ (q123)), List.forall_mem_cons.mpr ⟨u_known hts (fun w h => by cases h) (hts _ (q661)), List.forall_mem_cons.mpr ⟨u_known hts in_X14r (hts _ (q941)), List.forall_mem_cons.mpr ⟨u_known hts in_X15r (hts _ (q980)), fun _ h => absurd h List.not_mem_nil⟩⟩⟩⟩⟩⟩⟩⟩⟩⟩⟩⟩⟩⟩⟩⟩⟩⟩⟩⟩⟩⟩⟩⟩⟩⟩⟩⟩⟩⟩⟩⟩⟩⟩⟩⟩
theorem st_cls {args : Array Value} {s : State} (hts : ∀ w ∈ lw_all, w.before args s = true) : ∃ D : va_G, ∀ (c : Nat) (q : vw_C), vcl[c]? = some q → u_Kn s q.1 q.2.1 q.2.2 (D.1 c) (D.2 c) := by
  have h0 : ∀ c : Nat, ∃ r : ClassId × (Nat → Nat), ∀ q : vw_C, vcl[c]? = some q → u_Kn s q.1 q.2.1 q.2.2 r.1 r.2 := by
    intro c
    cases hc : vcl[c]? with
    | none => exact ⟨(0, fun _ => 0), fun q h => by cases h⟩
    | some q0 =>
      obtain ⟨cC, iS, h⟩ := st_cls1 hts q0 (List.mem_of_getElem? hc)
      exact ⟨(cC, iS), fun q hq => by cases hq; exact h⟩
  obtain ⟨f, hf⟩ := Classical.axiomOfChoice h0
  exact ⟨(fun c => (f c).1, fun c => (f c).2), fun c q hq => hf c q hq⟩
/-- the text constants -/
def stm (i : Nat) : Term := .string "NobodyBeenAftModel" (sIx.getD i 0)
theorem st_ev {args : Array Value} {s : State} (hts : ∀ w ∈ lw_tbl, w.before args s = true) (hn : (Jvm.Cond.and given_1 narrow_1).before args s = true) (b : Nat) : ∃ f : Nat → Nat, f 20 = b ∧ vEv (s.heap.size, f) s s.heap := by
  have hs := flat_of_before _ hn
  have hA : ∀ a : Nat, a < s.heap.size → ¬ (fun q => s.heap.size ≤ q) a := fun a h1 h2 => absurd h1 (Nat.not_lt.mpr h2)
  obtain ⟨adK, adV, hS, hE⟩ := vk_Sof (args := args) (s := s) (N := 6) (tm := stm) (len := sLn) (byt := sBy) (A := fun q => s.heap.size ≤ q) (by decide) (fun i hi => hs _ ((by decide +kernel : ∀ i, i < 6 → Cond.exactly (stm i) "java/lang/String" ∈ (flatC (Jvm.Cond.and given_1 narrow_1))) i hi))
    (fun i hi => hs _ ((by decide +kernel : ∀ i, i < 6 → (Cond.eq (.field (stm i) "java/lang/String" "coder" "B") (.int 0)) ∈ (flatC (Jvm.Cond.and given_1 narrow_1))) i hi))
    (fun i hi => hs _ ((by decide +kernel : ∀ i, i < 6 → (Cond.arrayOf (.field (stm i) "java/lang/String" "value" "[B") .byte) ∈ (flatC (Jvm.Cond.and given_1 narrow_1))) i hi))
    (fun i hi => hs _ ((by decide +kernel : ∀ i, i < 6 → (Cond.eq (.length (.field (stm i) "java/lang/String" "value" "[B")) (.int (Int32.ofNat (sLn.getD i 0)))) ∈ (flatC (Jvm.Cond.and given_1 narrow_1))) i hi))
    (fun i hi j hj => hs _ ((by decide +kernel : ∀ i, i < 6 → ∀ j, j < sLn.getD i 0 → (Cond.eq (.elem (.field (stm i) "java/lang/String" "value" "[B") (.int (Int32.ofNat j))) (.int ((sBy.getD i []).getD j 0))) ∈ (flatC (Jvm.Cond.and given_1 narrow_1))) i hi j hj))
    (fun i j hi hj hij => ((by decide +kernel : ∀ i, i < 6 → ∀ j, j < 6 → i ≠ j → (Cond.not (Cond.eq (stm i) (stm j))) ∈ (flatC (Jvm.Cond.and given_1 narrow_1)) ∨ (Cond.not (Cond.eq (stm j) (stm i))) ∈ (flatC (Jvm.Cond.and given_1 narrow_1))) i hi j hj hij).imp (fun h => hs _ h) (fun h => hs _ h)) hA
  have hsr : ∀ i, i < 6 → (Cond.stringRef "NobodyBeenAftModel" (sIx.getD i 0) (sTx.getD i "")).before args s = true := by
    intro i hi
    have h6 : i = 0 ∨ i = 1 ∨ i = 2 ∨ i = 3 ∨ i = 4 ∨ i = 5 := by omega
    rcases h6 with rfl | rfl | rfl | rfl | rfl | rfl
    · exact hts _ q1493
    · exact hts _ q1574
    · exact hts _ q1575
    · exact hts _ q1576
    · exact hts _ q1577
    · exact hts _ q1709
  have hz : va_Zq "jdk/internal/util/Preconditions" "SIOOBE_FORMATTER" "Ljava/util/function/BiFunction;" (fun q => s.heap.size ≤ q) s s.heap := va_Zqof (hts _ q1527) (hts _ (lw_all_tbl q99)) (hs _ (by decide +kernel)) hA
  obtain ⟨aS, haS⟩ : ∃ aS : Nat, va_Z "jdk/internal/util/Preconditions" "SIOOBE_FORMATTER" "Ljava/util/function/BiFunction;" .null (fun q => s.heap.size ≤ q) s s.heap ∨ va_Z "jdk/internal/util/Preconditions" "SIOOBE_FORMATTER" "Ljava/util/function/BiFunction;" (.ref aS) (fun q => s.heap.size ≤ q) s s.heap := by
    rcases hz with h | ⟨t, h⟩
    · exact ⟨0, Or.inl h⟩
    · exact ⟨t, Or.inr h⟩
  refine ⟨fun i => if i < 6 then adK i else if i < 16 then adV (i - 10) else if i = 20 then b else if i = 30 then aS else 0, rfl, ?_⟩
  refine ⟨?_, ?_, ?_, ?_, ?_, ?_, ?_, ?_, ?_⟩
  · refine ⟨fun i hi => ?_, fun i j hi hj h => ?_⟩
    · have e1 : (if i < 6 then adK i else if i < 16 then adV (i - 10) else if i = 20 then b else if i = 30 then aS else 0) = adK i := if_pos hi
      have e2 : (if 10 + i < 6 then adK (10 + i) else if 10 + i < 16 then adV (10 + i - 10) else if 10 + i = 20 then b else if 10 + i = 30 then aS else 0) = adV i := by
        rw [if_neg (by omega), if_pos (by omega), Nat.add_sub_cancel_left]
      show va_O _ (if i < 6 then adK i else if i < 16 then adV (i - 10) else if i = 20 then b else if i = 30 then aS else 0) _ _ _ ∧ va_OF _ _ _ _ (if i < 6 then adK i else if i < 16 then adV (i - 10) else if i = 20 then b else if i = 30 then aS else 0) _ _ _ ∧ va_OF _ _ _ (.ref (if 10 + i < 6 then adK (10 + i) else if 10 + i < 16 then adV (10 + i - 10) else if 10 + i = 20 then b else if 10 + i = 30 then aS else 0)) (if i < 6 then adK i else if i < 16 then adV (i - 10) else if i = 20 then b else if i = 30 then aS else 0) _ _ _ ∧ va_T _ (if 10 + i < 6 then adK (10 + i) else if 10 + i < 16 then adV (10 + i - 10) else if 10 + i = 20 then b else if 10 + i = 30 then aS else 0) _ _ _ _ _
      rw [e1, e2]
      exact hS.1 i hi
    · have h : (if i < 6 then adK i else _) = (if j < 6 then adK j else _) := h
      rw [if_pos hi, if_pos hj] at h
      exact hS.2 i j hi hj h
  · intro i hi
    have e1 : (if i < 6 then adK i else if i < 16 then adV (i - 10) else if i = 20 then b else if i = 30 then aS else 0) = adK i := if_pos hi
    show vk_R _ _ _ (if i < 6 then adK i else if i < 16 then adV (i - 10) else if i = 20 then b else if i = 30 then aS else 0) s
    rw [e1]
    exact vk_R.of (hsr i hi) (hE i hi)
  · exact va_Zof (hts _ q1511) (hts _ (lw_all_tbl q97)) (va_eqt (hs _ (by decide +kernel))) hA
  · exact haS
  · exact vx_Zqof (hts _ q414) (hts _ (lw_all_tbl q91)) (hs _ (by decide +kernel)) hA
  · exact vx_Zqof (hts _ q416) (hts _ (lw_all_tbl q91)) (hs _ (by decide +kernel)) hA
  · exact va_Nc.of (hs _ (by decide +kernel))
  · exact va_Nc.of (hs _ (by decide +kernel))
  · exact va_Nc.of (hs _ (by decide +kernel))
