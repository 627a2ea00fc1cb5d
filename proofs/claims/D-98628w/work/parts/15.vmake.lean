/-! OBJECTS TO BE THROWN: made by the program or by the machine -/
set_option maxRecDepth 100000
set_option maxHeartbeats 1000000 in
theorem vx_vmAt2 {p : Program} {l : Launch} {e : Env} {R : Room} {s : State} {m₀ : MethodId} {args : Array Value} {below : List Frame} {meth : Method} {c : Code} {W : State} {locs : List Loc} {cells slots : Nat}
    (X : Stand p l e R s m₀ args below meth c W locs cells slots) (hexec : p.tables.exec = Jvm.exec) (htr : e.platform.stackTraces = false) {cls : String} {names : List String} {text : String}
    (hcls : Bundle.fit cls = true) (hnames : ∀ n ∈ names, Bundle.fit n = true) (hsoe : (cls == "java/lang/StackOverflowError") = false) (hoom : (cls == "java/lang/OutOfMemoryError") = false)
    (h : ∀ a ∈ Bundle.messageArmAtoms cls names, a.before args s = true)
    (hlocs : ∀ x ∈ locs, ∀ cell, s.heap[x.base]? = some cell → cell.vm.isStatics = false)
    (htext : (text == notModelled) = false) (hlimit : ¬ (stringBytes (stringToUtf16 text)).size > e.platform.arrayLengthLimit) (hheap : ¬ (stringBytes (stringToUtf16 text)).size * componentBytes .byte > e.platform.maxHeapBytes)
    {g : JFrame} (hg : g.method = m₀) (hsize : g.locals.size = c.maxLocals)
    (hRframes : names.length + 4 < R.frames) (hRlocals : 2 * g.monitorRoom + (g.stack.map fun v => v.category).sum + 10240 ≤ R.locals) (hshort : 13 * names.length + 55 ≤ 10240)
    (hRcells : cells + 3 ≤ R.cells) (hRslots : slots + ((stringBytes (stringToUtf16 text)).size + 4 + 6) ≤ R.slots) (hlocks : meth.locks = false) :
    ∃ (S : State) (q : Addr) (ce : Cell), (∀ target, Steps p.tables e below ((S.setTop g).pushFrame (.throwing q)) target → Steps p.tables e below ((W.setTop g).pushFrame (.throwNew cls (some text) none)) target) ∧
      Stand p l e R s m₀ args below meth c S locs (cells + 3) (slots + ((stringBytes (stringToUtf16 text)).size + 4 + 6)) ∧ S.heap[q]? = some ce ∧ s.vm.findClass cls = some ce.cls ∧ ce.vm = .none ∧ S.heap.size = W.heap.size + 3 ∧ q = W.heap.size + 2 ∧ (∃ cB : ClassId, s.vm.findClass "[B" = some cB ∧ S.heap[W.heap.size]? = some (bytesOf cB (stringToUtf16 text))) ∧ ∃ cs : Cell, S.heap[W.heap.size + 1]? = some cs ∧ s.vm.findClass "java/lang/String" = some cs.cls ∧ cs.vm = .none := by
  have howns : e.platform.frameOwnsMonitors = true := by rw [X.admits.platform]
  have hfin : e.platform.finalization = false := by rw [X.admits.platform]
  have hpl : e.platform.magicAccessors = ({} : Platform).magicAccessors := by rw [X.admits.platform]
  have a : ∀ x, x ∈ Bundle.messageArmAtoms cls names → x.holds args s none s [] = true := fun x hx => h x hx
  obtain ⟨T, Z0, L, -, Y⟩ := ThrowableC.of_atoms (args := args) howns hfin hpl (fun x hx => h x (by simp [Bundle.messageArmAtoms, hx]))
  obtain ⟨Z, M, LZ, LM, hnZ⟩ := Init0T.ofS_atoms (args := args) hpl L Y (fun x hx => h x (by simp [Bundle.messageArmAtoms, hx]))
  obtain ⟨P1, Ps, hlen, L1, hL, hP1m, hlink1, hlink⟩ := Bundle.chainS (args := args) hpl hnZ names cls hcls hnames (fun x hx => h x (by simp [Bundle.messageArmAtoms, hx]))
  obtain ⟨Zs, LZs, hn4, hfitv, hfitc⟩ := StringT.of_atoms (args := args) (fun x hx => h x (by simp [Bundle.messageArmAtoms, hx]))
  have hfound : s.vm.findClass cls = some P1.m.cls := findClass_of_methodNamed hP1m
  obtain ⟨c1, kX, hc1, hk, hord, -, -, hn6⟩ := Cond.instantiable_spec (a (.instantiable cls 6) (by simp [Bundle.messageArmAtoms]))
  cases Option.some.inj (hc1.symm.trans hfound)
  have hinit := Cond.initialized_spec hfound hk (a (.initialized cls) (by simp [Bundle.messageArmAtoms]))
  have hctor : kX.findMethod "<init>" "(Ljava/lang/String;)V" = some P1.m.idx := findMethod_of_methodNamed hP1m hk
  have hsel0 : selectMethod e.platform s.vm P1.m.cls T.fill0 = .method T.fill0 := by
    obtain ⟨c2, r2, m2, q1, q2, q3, q4, -⟩ := Cond.selects_spec (a (.selects cls Bundle.tFill0 Bundle.tFill0) (by simp [Bundle.messageArmAtoms]))
    cases Option.some.inj (q1.symm.trans hfound)
    cases Option.some.inj (q2.symm.trans (State.methodFound?_of_named Y.fill0 (by decide)))
    cases Option.some.inj (q3.symm.trans Y.fill0)
    rw [Launch.admits_selectMethod X.admits]; exact q4
  have hselF : selectMethod e.platform s.vm P1.m.cls T.fill = .method T.fill := by
    obtain ⟨c2, r2, m2, q1, q2, q3, q4, -⟩ := Cond.selects_spec (a (.selects cls Bundle.tFill Bundle.tFill) (by simp [Bundle.messageArmAtoms]))
    cases Option.some.inj (q1.symm.trans hfound)
    cases Option.some.inj (q2.symm.trans (State.methodFound?_of_named Y.fill (by decide)))
    cases Option.some.inj (q3.symm.trans Y.fill)
    rw [Launch.admits_selectMethod X.admits]; exact q4
  obtain ⟨cellS0, hcS0, hiss⟩ := Y.statics
  obtain ⟨u0, hu0⟩ := Cond.staticRefV Y.unassigned L.unassignedStatic L.statics hcS0 hiss (a (.isRef (.static Bundle.tN "UNASSIGNED_STACK" Bundle.steD)) (by simp [Bundle.messageArmAtoms]))
  obtain ⟨sen, hsen⟩ := Cond.staticRefV Y.sentinel L.sentinelStatic L.statics hcS0 hiss (a (.isRef (.static Bundle.tN "SUPPRESSED_SENTINEL" Bundle.listD)) (by simp [Bundle.messageArmAtoms]))
  obtain ⟨ci198, i198, fB, hk198, hg198, ha198, hsB, -, hnB, htB, hffB⟩ := Cond.ownField (t := .object "java/lang/Object") Y.found L.cls (by decide +kernel) (a (.fieldLink Bundle.tN 198 Bundle.tN "backtrace" "Ljava/lang/Object;") (by simp [Bundle.messageArmAtoms])) (a (.lays Bundle.tN Bundle.tN "backtrace" "Ljava/lang/Object;") (by simp [Bundle.messageArmAtoms])) e.platform hpl
  obtain ⟨cellS, hcS', heS, -, hkeep⟩ := X.same.2.2.2.2.2 T.aS cellS0 hcS0
  have hcellS : W.heap[T.aS]? = some cellS := hcS'
  have hout' : ∀ i, (⟨T.aS, i⟩ : Loc) ∉ locs := fun i hmem => by
    have := hlocs _ hmem cellS0 hcS0
    rw [hiss] at this; cases this
  have hknownS : cellS.vm ≠ .unknown := by
    rw [heS]; intro hu
    rw [show cellS0.vm = .unknown from hu] at hiss
    cases hiss
  have hvU : cellS.slots[T.fUnassigned.slot]? = some u0.v := by rw [hkeep _ (hout' _)]; exact hu0
  have hvSen : cellS.slots[T.fSentinel.slot]? = some sen.v := by rw [hkeep _ (hout' _)]; exact hsen
  obtain ⟨iM, hffM⟩ := Y.msg
  obtain ⟨tyC, dC, hdC, hdnC⟩ := Cond.laysAt hfound hk Y.cause (a (.lays cls Bundle.tN "cause" "Ljava/lang/Throwable;") (by simp [Bundle.messageArmAtoms]))
  obtain ⟨tyS, dS, hdS, hdnS⟩ := Cond.laysAt hfound hk Y.stack (a (.lays cls Bundle.tN "stackTrace" Bundle.steD) (by simp [Bundle.messageArmAtoms]))
  obtain ⟨tyP, dP, hdP, hdnP⟩ := Cond.laysAt hfound hk Y.supp (a (.lays cls Bundle.tN "suppressedExceptions" Bundle.listD) (by simp [Bundle.messageArmAtoms]))
  obtain ⟨tyM, dM, hdM, hdnM⟩ := Cond.laysAt hfound hk hffM (a (.lays cls Bundle.tN "detailMessage" "Ljava/lang/String;") (by simp [Bundle.messageArmAtoms]))
  obtain ⟨tyB, dB, hdB, hdnB⟩ := Cond.laysAt hfound hk hffB (a (.lays cls Bundle.tN "backtrace" "Ljava/lang/Object;") (by simp [Bundle.messageArmAtoms]))
  have bC := Cond.laysApart hdB hdC hdnB hdnC (by rw [hnB, Y.causeName]; decide)
  have bS := Cond.laysApart hdB hdS hdnB hdnS (by rw [hnB, Y.stackName]; decide)
  have bP := Cond.laysApart hdB hdP hdnB hdnP (by rw [hnB, Y.suppName]; decide)
  have hbk : ((preparedCellV T.toThrowableT (freshCell P1.m.cls kX) (W.heap.size + 2) u0 sen).withEntry W.cur).slots[fB.slot]? = some .null := by
    have := fresh_default (c := P1.m.cls) tyB
    rw [htB] at this
    simpa [preparedCellV, Cell.setSlot, Cell.withEntry, Array.getElem?_setIfInBounds, bC, bS, bP, bC.symm, bS.symm, bP.symm, defaultValue] using this
  have tkC := Takes.of_laid (v := .ref (W.heap.size + 2)) hk hord tyC (by rw [Y.causeType]; rfl)
  have tkS := Takes.of_laid (v := u0.v) hk hord tyS (by rw [Y.stackType]; exact fits_refV_array _ u0)
  have tkP := Takes.of_laid (v := sen.v) hk hord tyP (by rw [Y.suppType]; exact fits_refV_object _ sen)
  have tkM := Takes.of_laid (v := .ref (W.heap.size + 1)) hk hord tyM (by rw [Y.msgType]; rfl)
  have hskip : SkipFacts T e.platform s (fun u => u) u0 ((preparedCellV T.toThrowableT (freshCell P1.m.cls kX) (W.heap.size + 2) u0 sen).withEntry W.cur) := ⟨{ ci198 := ci198, i198 := i198, fBack := fB }, ⟨hk198, hg198, ha198, hsB⟩, hbk, fun _ _ => rfl⟩
  have h0 : At W g.method c below := by rw [hg]; exact X.here
  obtain ⟨hbeyond, hfreeW⟩ := X.vmMayThrow hsize (.throwNew cls (some text) none) (fun f hf => by cases hf) rfl hRlocals
  have hfr' : W.frames.length + Ps.length + 4 < (e.platform.stackLimits W.me).1 := by have := X.framesAbove hRframes; omega
  have hwd' : (stackUse (.java g :: W.frames.tail)).2 + 13 * Ps.length + 55 ≤ (e.platform.stackLimits W.me).2 := by have := X.stackAbove hsize (K := 13 * Ps.length + 55) (by omega); omega
  have hslots : W.slotsUsed + (stringBytes (stringToUtf16 text)).size + Zs.kS.instanceTypes.size + kX.instanceTypes.size ≤ e.platform.maxSlots := by
    have := X.slotsAbove hRslots
    rw [hn4, hn6]
    omega
  obtain ⟨vm', hW', st⟩ := Steps.vmThrowsMessageColdByV p (s₀ := s) (S := W) (g := g) h0 hexec T L Z LZ M LM X.warmed (t := W.cur) rfl Zs LZs P1 L1 Ps hL hlink1 hlink hsoe hoom hfound hk hinit hord hctor
    (Launch.admits_hotImplicitExceptions X.admits) hbeyond hfreeW htext hlimit hheap (X.cellsAbove hRcells) hslots (hfitv _) (hfitc _)
    (Nn := fun u => u) heapOnly_id (fun _ _ => rfl) (fun _ => rfl) (fun u x y => setCell_twice _ _ _ _) (fun _ => Nat.le_refl _) (cN := ((preparedCellV T.toThrowableT (freshCell P1.m.cls kX) (W.heap.size + 2) u0 sen).withEntry W.cur))
    hsel0 hcellS hknownS hvU tkS (fun _ hu => hu) (fun _ hu => hu) rfl rfl rfl (by simp [preparedCellV, Cell.setSlot, Cell.withEntry]) hskip (fun _ _ hA hW _ hroom _ hrest => L.nativeOff p htr hA hW hroom hrest) hselF hvSen tkC tkP tkM Y.objLocals rfl hfr' hwd'
  rw [plainBareV_eq T.toThrowableT (W.heap.size + 2) u0 sen (.ref (W.heap.size + 1)) W.cur rfl rfl] at st
  obtain ⟨-, -, w3, w4, -, -, -⟩ := withThrown_facts e.platform W Zs text P1.m.cls kX
  have X3 := ((X.pushed (bytesOf Zs.cB (stringToUtf16 text))).pushed (stringAt Zs.cS Zs.kS Zs.fv Zs.fc (stringToUtf16 text) W.heap.size)).pushed (freshCell P1.m.cls kX)
  rw [← withString_eq] at X3
  have X4 := X3.noted hW'
  have ha : (W.heap.size + 2) < ((withThrown W Zs text P1.m.cls kX).setVm vm').heap.size := by show _ < (withThrown W Zs text P1.m.cls kX).heap.size; rw [w3]; omega
  have hcell : ((withThrown W Zs text P1.m.cls kX).setVm vm').heap[(W.heap.size + 2)]? = some (freshCell P1.m.cls kX) := w4
  have X5 := ((((X4.stored hcell T.fCause.slot (.ref (W.heap.size + 2))).storedAgain ha T.fStack.slot u0.v).storedAgain ha T.fSupp.slot sen.v).storedAgain ha T.fStack.slot u0.v).storedAgain ha T.fMsg.slot (.ref (W.heap.size + 1))
  obtain ⟨g₁, hfrM⟩ := X5.frames_eq
  have hU : ((((withThrown W Zs text P1.m.cls kX).setVm vm').setCell (W.heap.size + 2) (plainBareV T.toThrowableT (freshCell P1.m.cls kX) (W.heap.size + 2) u0 sen (.ref (W.heap.size + 1)))).setTop g).pushFrame (.throwing (W.heap.size + 2)) = (((withThrown W Zs text P1.m.cls kX).setVm vm').setCell (W.heap.size + 2) (plainBareV T.toThrowableT (freshCell P1.m.cls kX) (W.heap.size + 2) u0 sen (.ref (W.heap.size + 1)))).setFrames (.throwing (W.heap.size + 2) :: .java g :: below) := by
    rw [State.pushFrame, State.frames_setTop _ hfrM, State.setTop_of_frames _ hfrM, State.setFrames_setFrames]
  have b1 : (bytesOf Zs.cB (stringToUtf16 text)).slots.size = (stringBytes (stringToUtf16 text)).size := by
    rw [(Cell.writeAll_facts _ _).2.2]; simp [bytes0]
  have b2 : (stringAt Zs.cS Zs.kS Zs.fv Zs.fc (stringToUtf16 text) W.heap.size).slots.size = 4 := by simp [string0, Cell.setSlot, hn4]
  have b3 : (freshCell P1.m.cls kX).slots.size = 6 := by simp [hn6]
  rw [b1, b2, b3] at X5
  have e9 : slots + (stringBytes (stringToUtf16 text)).size + 4 + 6 = slots + ((stringBytes (stringToUtf16 text)).size + 4 + 6) := by omega
  rw [e9] at X5
  simp only [List.append_assoc, List.cons_append, List.nil_append] at X5
  refine ⟨((withThrown W Zs text P1.m.cls kX).setVm vm').setCell (W.heap.size + 2) (plainBareV T.toThrowableT (freshCell P1.m.cls kX) (W.heap.size + 2) u0 sen (.ref (W.heap.size + 1))), W.heap.size + 2, _, fun target ht => st _ (by rw [X.tail, ← hU]; exact ht),
    X5.forget (fun y hy => ?_), heapAt_setCell_self _ ha, hfound, rfl, by show (State.setCell _ _ _).heap.size = _; rw [show ∀ (S9 : State) (a9 : Addr) (c9 : Cell), (S9.setCell a9 c9).heap.size = S9.heap.size from fun S9 a9 c9 => by simp [State.setCell]]; exact w3, rfl, ⟨Zs.cB, LZs.foundB, ?_⟩, stringAt Zs.cS Zs.kS Zs.fv Zs.fc (stringToUtf16 text) W.heap.size, ?_, LZs.found, rfl⟩
  rotate_left
  · rw [State.heap_setCell_other (show W.heap.size + 2 ≠ W.heap.size by omega)]
    exact (withThrown_two W Zs text P1.m.cls kX).1
  · rw [State.heap_setCell_other (show W.heap.size + 2 ≠ W.heap.size + 1 by omega)]
    exact (withThrown_two W Zs text P1.m.cls kX).2
  simp only [List.mem_cons, List.not_mem_nil, or_false] at hy
  have hge : s.heap.size ≤ W.heap.size := X.same.2.1
  rcases hy with rfl | rfl | rfl | rfl | rfl <;> exact Nat.le_trans hge (Nat.le_add_right _ 2)
section VMK0
variable {p : Program} {l : Launch} {e : Env} {R : Room} {s : State} {m : MethodId} {args : Array Value} {below : List Frame} {meth : Method} {c : Code} {H : Heap} {locs : List Loc} {cells slots : Nat}
theorem vx_vm2 {pc : Nat} {ls : Array Slot} {rest : List Value} {Q : State → Prop} (hexec : p.tables.exec = Jvm.exec) (hl : l.stackTraces = false) {cls text : String} {names : List String} {nb : Nat} {A : Nat → Prop}
    (hcls : Bundle.fit cls = true) (hnames : ∀ n ∈ names, Bundle.fit n = true) (hsoe : (cls == "java/lang/StackOverflowError") = false) (hoom : (cls == "java/lang/OutOfMemoryError") = false)
    (hat : ∀ w ∈ vx_atM cls names, w.before args s = true) (hgood : ∀ w ∈ vx_atM cls names, vx_ot w = true)
    (hU : vx_Zq Bundle.tN "UNASSIGNED_STACK" Bundle.steD A s s.heap) (hN : vx_Zq Bundle.tN "SUPPRESSED_SENTINEL" Bundle.listD A s s.heap) (hS : va_S A s.heap H locs) (hsize : ls.size = c.maxLocals)
    (htext : (text == notModelled) = false) (hnb : (stringBytes (stringToUtf16 text)).size ≤ nb) (hnb1 : nb ≤ 1000)
    (hRframes : names.length + 4 < R.frames) (hRlocals : (rest.map fun v => v.category).sum + 10240 ≤ R.locals) (hshort : 13 * names.length + 55 ≤ 10240) (hRcells : cells + 3 ≤ R.cells) (hRslots : slots + (nb + 10) ≤ R.slots) (hlocks : meth.locks = false)
    (k : ∀ (H1 : Heap) (q9 : Addr) (ce : Cell), H.size ≤ H1.size → (∀ q : Nat, q < H.size → H1[q]? = H[q]?) → va_S A s.heap H1 locs → H1[q9]? = some ce → ce.vm = .none → s.vm.findClass cls = some ce.cls → (H1.size = H.size + 3 ∧ q9 = H.size + 2 ∧ (∃ cB : ClassId, s.vm.findClass "[B" = some cB ∧ H1[H.size]? = some (bytesOf cB (stringToUtf16 text))) ∧ ∃ cs : Cell, H1[H.size + 1]? = some cs ∧ s.vm.findClass "java/lang/String" = some cs.cls ∧ cs.vm = .none) → vx_W p l e R s m args below meth c H1 locs (cells + 3) (slots + (nb + 10)) Q (F0 m pc ls rest) q9) :
    vx_Note p l e R s m args below meth c H locs cells slots Q (F0 m pc ls rest) cls text := by
  intro T hT X
  have htr : e.platform.stackTraces = false := (show e.platform.stackTraces = l.stackTraces by rw [X.admits.platform]).trans hl
  have Y := vx_rebase X (R' := { frames := R.frames, locals := R.locals, cells := 3, slots := nb + 10 }) (Nat.le_refl _) (Nat.le_refl _) hRcells hRslots
  have hhp : ((T.setVm s.vm).setFrames (.invoking m args :: below)).heap = H := hT
  have hW0 : s.WarmedH ((T.setVm s.vm).setFrames (.invoking m args :: below)).vm := State.WarmedH.refl s
  have hat' : ∀ w ∈ vx_atM cls names, w.before args ((T.setVm s.vm).setFrames (.invoking m args :: below)) = true := fun w hw => vx_ot_at hW0 rfl (hgood w hw) (hat w hw)
  have hU' : vx_Zq Bundle.tN "UNASSIGNED_STACK" Bundle.steD A ((T.setVm s.vm).setFrames (.invoking m args :: below)) ((T.setVm s.vm).setFrames (.invoking m args :: below)).heap := by rw [hhp]; exact vx_Zq.moved hW0.alike (hU.kept hS.2.1)
  have hN' : vx_Zq Bundle.tN "SUPPRESSED_SENTINEL" Bundle.listD A ((T.setVm s.vm).setFrames (.invoking m args :: below)) ((T.setVm s.vm).setFrames (.invoking m args :: below)).heap := by rw [hhp]; exact vx_Zq.moved hW0.alike (hN.kept hS.2.1)
  obtain ⟨S, q, ce, st, Z, hce, hcl', hv, hx9⟩ := vx_vmAt2 Y hexec htr (cls := cls) (names := names) (text := text) hcls hnames hsoe hoom (vx_own hat' (vx_isRefq hU'.1) (vx_isRefq hN'.1) hU'.2.word hN'.2.word) (fun x hx => nomatch hx) htext
    (by rw [Launch.admits_arrayLengthLimit X.admits]; omega) (by rw [Launch.admits_maxHeapBytes X.admits]; simp only [componentBytes]; omega)
    (g := F0 m pc ls rest) rfl hsize hRframes (by show 2 * 0 + (rest.map fun v => v.category).sum + 10240 ≤ R.locals; omega) hshort (by show 0 + 3 ≤ 3; omega) (by show 0 + (_ + 4 + 6) ≤ nb + 10; omega) hlocks
  obtain ⟨f1, f2⟩ := vx_frame Z.same
  have f1' : H.size ≤ S.heap.size := by rw [← hT]; exact f1
  have f2' : ∀ q : Nat, q < H.size → S.heap[q]? = H[q]? := fun q hq => by
    rw [← hT]
    exact f2 q (by rw [← hT] at hq; exact hq) (fun z hz => nomatch hz)
  have X5 := vx_back9 X Y Z
  have X6 : Stand p l e R s m args below meth c S locs (cells + 3) (slots + (nb + 10)) := { X5 with same := X5.same.mono (by omega) (by omega) }
  obtain ⟨t, a1, b1⟩ := k S.heap q ce f1' f2' ⟨Nat.le_trans hS.1 f1', fun q h1 h2 => (f2' q (Nat.lt_of_lt_of_le h1 hS.1)).trans (hS.2.1 q h1 h2), hS.2.2⟩ hce hv hcl' (by rw [← hT]; exact hx9) S rfl X6
  exact ⟨t, st t a1, b1⟩
end VMK0
theorem at_ns_w : ∀ w ∈ (vx_at0 "NobodyBeenAft" 198 "java/util/NoSuchElementException" ["java/lang/RuntimeException", "java/lang/Exception"]).filter goodWord, w ∈ lw_all := lw_in _ [91, 409, 418, 422, 425, 427, 410, 411, 120, 121, 412, 417, 423, 439, 399, 440, 401, 441, 403, 413, 415, 405, 1234, 1235, 1236, 1237, 1237, 1238, 1239, 432, 432, 433, 434, 410, 1233, 1225, 1227, 421, 1228, 1229, 1230, 1231, 408, 407, 1232] (by decide +kernel) (by decide +kernel)
theorem at_ns {args : Array Value} {s : State} (h1 : ∀ w ∈ lw_all, w.before args s = true) (h2 : ∀ w ∈ vNest, va_Nw w s) : ∀ w ∈ vx_at0 "NobodyBeenAft" 198 "java/util/NoSuchElementException" ["java/lang/RuntimeException", "java/lang/Exception"], w.before args s = true := vx_hat (B := [Cond.declares ({ cls := "java/lang/RuntimeException", name := "<init>", desc := "()V" } : Jvm.MethodName), Cond.declares ({ cls := "java/lang/Exception", name := "<init>", desc := "()V" } : Jvm.MethodName), Cond.declares ({ cls := "java/lang/Throwable", name := "<init>", desc := "()V" } : Jvm.MethodName), Cond.castable "java/util/NoSuchElementException" "java/util/NoSuchElementException"]) (fun w h => h1 w (at_ns_w w h)) (by decide +kernel) (vx_c (h2 _ (vNest_in q658 rfl)) (vx_c (h2 _ (vNest_in q392 rfl)) (vx_c (h2 _ (vNest_in q394 rfl)) (vx_c (h2 _ (vNest_in q1226 rfl)) (vx_n)))))
theorem at_ns_g : ∀ w ∈ vx_at0 "NobodyBeenAft" 198 "java/util/NoSuchElementException" ["java/lang/RuntimeException", "java/lang/Exception"], vx_ot w = true := by decide +kernel
theorem at_na_w : ∀ w ∈ (vx_atM "java/lang/NegativeArraySizeException" ["java/lang/RuntimeException", "java/lang/Exception"]).filter goodWord, w ∈ lw_all := lw_in _ [91, 409, 418, 422, 425, 427, 410, 411, 120, 121, 412, 417, 423, 439, 399, 440, 401, 441, 403, 413, 415, 405, 648, 649, 438, 405, 639, 640, 641, 642, 642, 643, 644, 645, 645, 646, 647, 648, 97, 661, 274, 662, 664, 663, 665, 106, 638, 660, 420, 652, 653, 655, 651, 408, 407, 650] (by decide +kernel) (by decide +kernel)
theorem at_na {args : Array Value} {s : State} (h1 : ∀ w ∈ lw_all, w.before args s = true) (h2 : ∀ w ∈ vNest, va_Nw w s) : ∀ w ∈ vx_atM "java/lang/NegativeArraySizeException" ["java/lang/RuntimeException", "java/lang/Exception"], w.before args s = true := vx_hat (B := [Cond.declares ({ cls := "java/lang/RuntimeException", name := "<init>", desc := "(Ljava/lang/String;)V" } : Jvm.MethodName), Cond.declares ({ cls := "java/lang/Exception", name := "<init>", desc := "(Ljava/lang/String;)V" } : Jvm.MethodName), Cond.declares ({ cls := "java/lang/Throwable", name := "<init>", desc := "(Ljava/lang/String;)V" } : Jvm.MethodName), Cond.castable "java/lang/NegativeArraySizeException" "java/lang/NegativeArraySizeException"]) (fun w h => h1 w (at_na_w w h)) (by decide +kernel) (vx_c (h2 _ (vNest_in q659 rfl)) (vx_c (h2 _ (vNest_in q393 rfl)) (vx_c (h2 _ (vNest_in q395 rfl)) (vx_c (h2 _ (vNest_in q657 rfl)) (vx_n)))))
theorem at_na_g : ∀ w ∈ vx_atM "java/lang/NegativeArraySizeException" ["java/lang/RuntimeException", "java/lang/Exception"], vx_ot w = true := by decide +kernel
def vf_L : List Cond := Bundle.throwableAtoms ++ Bundle.chain0Atoms "java/lang/Exception" [] ++ [.methodLink "NobodyBeenAft$Fault" 1 (Bundle.init0 "java/lang/Exception"), .instantiable "NobodyBeenAft$Fault" 7, .selects "NobodyBeenAft$Fault" Bundle.tFill0 Bundle.tFill0, .selects "NobodyBeenAft$Fault" Bundle.tFill Bundle.tFill, .lays "NobodyBeenAft$Fault" Bundle.tN "cause" "Ljava/lang/Throwable;", .lays "NobodyBeenAft$Fault" Bundle.tN "stackTrace" Bundle.steD, .lays "NobodyBeenAft$Fault" Bundle.tN "suppressedExceptions" Bundle.listD, .lays "NobodyBeenAft$Fault" Bundle.tN "detailMessage" "Ljava/lang/String;", .isRef (.static Bundle.tN "UNASSIGNED_STACK" Bundle.steD), .isRef (.static Bundle.tN "SUPPRESSED_SENTINEL" Bundle.listD), .fieldLink Bundle.tN 198 Bundle.tN "backtrace" "Ljava/lang/Object;", .lays Bundle.tN Bundle.tN "backtrace" "Ljava/lang/Object;", .lays "NobodyBeenAft$Fault" Bundle.tN "backtrace" "Ljava/lang/Object;"]
theorem at_fa_w : ∀ w ∈ (vf_L.filter vx_no).filter goodWord, w ∈ lw_all := lw_in _ [91, 409, 418, 422, 425, 427, 410, 411, 120, 121, 412, 417, 423, 439, 399, 440, 401, 441, 403, 413, 415, 405, 432, 433, 434, 410, 431, 390, 396, 397, 398, 400, 402, 404, 408, 407, 406] (by decide +kernel) (by decide +kernel)
theorem at_fa {args : Array Value} {s : State} (h1 : ∀ w ∈ lw_all, w.before args s = true) (h2 : ∀ w ∈ vNest, va_Nw w s) : ∀ w ∈ vf_L.filter vx_no, w.before args s = true := vx_hat (B := [Cond.declares ({ cls := "java/lang/Throwable", name := "<init>", desc := "()V" } : Jvm.MethodName)]) (fun w h => h1 w (at_fa_w w h)) (by decide +kernel) (vx_c (h2 _ (vNest_in q394 rfl)) (vx_n))
theorem at_fa_g : ∀ w ∈ vf_L.filter vx_no, vx_ot w = true := by decide +kernel
set_option maxHeartbeats 1000000 in
/-- super() of a Fault that is made: over its fresh cell (follows vx_ctorMade0) -/
theorem vf_super {p : Program} {l : Launch} {e : Env} {R : Room} {s : State} {m₀ : MethodId} {args : Array Value} {below : List Frame} {meth : Method} {c : Code} {W : State} {cells slots : Nat}
    (X : Stand p l e R s m₀ args below meth c W [] cells slots) (hexec : p.tables.exec = Jvm.exec) (htr : e.platform.stackTraces = false)
    (hown : s.vm.findClass "NobodyBeenAft$Fault" = some m₀.cls)
    (h : ∀ a ∈ vf_L, a.before args s = true)
    {a : Addr} {cX : ClassId} {kX : Class} (hfoundX : s.vm.findClass "NobodyBeenAft$Fault" = some cX) (hkX : s.vm.classes[cX]? = some kX) (hcell : W.heap[a]? = some (freshCell cX kX))
    {g : JFrame} (hg : g.method = m₀) (hsize : g.locals.size = c.maxLocals) {rest : List Value} (hstack : g.stack = .ref a :: rest)
    (hd6 : decode c.code g.pc = .ok (.invokespecial 1, 3))
    (hRframes : 3 < R.frames) (hRlocals : 2 * g.monitorRoom + (rest.map fun v => v.category).sum + 54 ≤ R.locals) :
    ∃ (vm : Vm) (ce : Cell) (L : List Loc), Stand p l e R s m₀ args below meth c ((W.setVm vm).setCell a ce) L cells slots ∧ (∀ y ∈ L, y.base = a) ∧ ce.cls = cX ∧ ce.vm = .none ∧ ce.slots.size = (freshCell cX kX).slots.size ∧
      ∀ target, Steps p.tables e below (((W.setVm vm).setCell a ce).setTop { g with stack := rest, pc := g.pc + 3 }) target → Steps p.tables e below (W.setTop g) target := by
  have howns : e.platform.frameOwnsMonitors = true := by rw [X.admits.platform]
  have hfin : e.platform.finalization = false := by rw [X.admits.platform]
  have hpl : e.platform.magicAccessors = ({} : Platform).magicAccessors := by rw [X.admits.platform]
  have a' : ∀ x, x ∈ vf_L → x.holds args s none s [] = true := fun x hx => h x hx
  obtain ⟨T, Z, L, LZ, Y⟩ := ThrowableC.of_atoms (args := args) howns hfin hpl (fun x hx => h x (by simp [vf_L, hx]))
  obtain ⟨P1, Ps, hlen, L1, hL, hP1m, hlink1, hlink⟩ := Bundle.chain0 (args := args) hpl Y.init0 [] "java/lang/Exception" (by decide) (by simp) (fun x hx => h x (by simp only [vf_L, List.mem_append]; exact Or.inl (Or.inr hx)))
  obtain ⟨c1, kX', hc1, hk, hord, -, -, hn6⟩ := Cond.instantiable_spec (a' (.instantiable "NobodyBeenAft$Fault" 7) (by simp [vf_L]))
  cases Option.some.inj (hc1.symm.trans hfoundX)
  cases Option.some.inj (hkX.symm.trans hk)
  have hfound := hfoundX
  have hsel0 : selectMethod e.platform s.vm cX T.fill0 = .method T.fill0 := by
    obtain ⟨c2, r2, m2, q1, q2, q3, q4, -⟩ := Cond.selects_spec (a' (.selects "NobodyBeenAft$Fault" Bundle.tFill0 Bundle.tFill0) (by simp [vf_L]))
    cases Option.some.inj (q1.symm.trans hfound)
    cases Option.some.inj (q2.symm.trans (State.methodFound?_of_named Y.fill0 (by decide)))
    cases Option.some.inj (q3.symm.trans Y.fill0)
    rw [Launch.admits_selectMethod X.admits]; exact q4
  have hselF : selectMethod e.platform s.vm cX T.fill = .method T.fill := by
    obtain ⟨c2, r2, m2, q1, q2, q3, q4, -⟩ := Cond.selects_spec (a' (.selects "NobodyBeenAft$Fault" Bundle.tFill Bundle.tFill) (by simp [vf_L]))
    cases Option.some.inj (q1.symm.trans hfound)
    cases Option.some.inj (q2.symm.trans (State.methodFound?_of_named Y.fill (by decide)))
    cases Option.some.inj (q3.symm.trans Y.fill)
    rw [Launch.admits_selectMethod X.admits]; exact q4
  obtain ⟨cellS0, hcS0, hiss⟩ := Y.statics
  obtain ⟨u0, hu0⟩ := Cond.staticRefV Y.unassigned L.unassignedStatic L.statics hcS0 hiss (a' (.isRef (.static Bundle.tN "UNASSIGNED_STACK" Bundle.steD)) (by simp [vf_L]))
  obtain ⟨sen, hsen⟩ := Cond.staticRefV Y.sentinel L.sentinelStatic L.statics hcS0 hiss (a' (.isRef (.static Bundle.tN "SUPPRESSED_SENTINEL" Bundle.listD)) (by simp [vf_L]))
  obtain ⟨ci198, i198, fB, hk198, hg198, ha198, hsB, -, hnB, htB, hffB⟩ := Cond.ownField (t := .object "java/lang/Object") Y.found L.cls (by decide +kernel) (a' (.fieldLink Bundle.tN 198 Bundle.tN "backtrace" "Ljava/lang/Object;") (by simp [vf_L])) (a' (.lays Bundle.tN Bundle.tN "backtrace" "Ljava/lang/Object;") (by simp [vf_L])) e.platform hpl
  obtain ⟨cellS, hcS', heS, -, hkeep⟩ := X.same.2.2.2.2.2 T.aS cellS0 hcS0
  have hcellS : W.heap[T.aS]? = some cellS := hcS'
  have hout' : ∀ i, (⟨T.aS, i⟩ : Loc) ∉ ([] : List Loc) := fun i hmem => nomatch hmem
  have hknownS : cellS.vm ≠ .unknown := by
    rw [heS]; intro hu
    rw [show cellS0.vm = .unknown from hu] at hiss
    cases hiss
  have hneS : T.aS ≠ a := by
    intro he
    rw [he, hcell] at hcellS
    have e1 := Option.some.inj hcellS
    have e2 : cellS.vm = .none := by rw [← e1]
    have e3 : cellS.vm = cellS0.vm := by
      have e4 := congrArg Cell.vm heS
      exact e4
    rw [← e3, e2] at hiss
    cases hiss
  obtain ⟨iM, hffM⟩ := Y.msg
  obtain ⟨tyC, dC, hdC, hdnC⟩ := Cond.laysAt hfound hk Y.cause (a' (.lays "NobodyBeenAft$Fault" Bundle.tN "cause" "Ljava/lang/Throwable;") (by simp [vf_L]))
  obtain ⟨tyS, dS, hdS, hdnS⟩ := Cond.laysAt hfound hk Y.stack (a' (.lays "NobodyBeenAft$Fault" Bundle.tN "stackTrace" Bundle.steD) (by simp [vf_L]))
  obtain ⟨tyP, dP, hdP, hdnP⟩ := Cond.laysAt hfound hk Y.supp (a' (.lays "NobodyBeenAft$Fault" Bundle.tN "suppressedExceptions" Bundle.listD) (by simp [vf_L]))
  obtain ⟨tyB, dB, hdB, hdnB⟩ := Cond.laysAt hfound hk hffB (a' (.lays "NobodyBeenAft$Fault" Bundle.tN "backtrace" "Ljava/lang/Object;") (by simp [vf_L]))
  have bC := Cond.laysApart hdB hdC hdnB hdnC (by rw [hnB, Y.causeName]; decide)
  have bS := Cond.laysApart hdB hdS hdnB hdnS (by rw [hnB, Y.stackName]; decide)
  have bP := Cond.laysApart hdB hdP hdnB hdnP (by rw [hnB, Y.suppName]; decide)
  have hskip : SkipFacts T e.platform s (fun u => u) u0 ((preparedCellV T.toThrowableT (freshCell cX kX) a u0 sen).withEntry W.cur) :=
    ⟨{ ci198 := ci198, i198 := i198, fBack := fB }, ⟨hk198, hg198, ha198, hsB⟩, by
      have := fresh_default (c := cX) tyB
      rw [htB] at this
      simpa [preparedCellV, Cell.setSlot, Cell.withEntry, Array.getElem?_setIfInBounds, bC, bS, bP, bC.symm, bS.symm, bP.symm, defaultValue] using this, fun _ _ => rfl⟩
  obtain ⟨tm, methC, cdC, kC, vm₁, hnC, -, -, -, -, -, -, -, hW₁, st1⟩ := Steps.initCold (tb := p.tables) (e := e) (below := below) (s := s) (U := W) X.here hexec X.warmed hpl hown (t := Bundle.init0 "java/lang/Exception") rfl rfl (Bundle.fit_spec (n := "java/lang/Exception") (by decide)).2
    (a' (.methodLink "NobodyBeenAft$Fault" 1 (Bundle.init0 "java/lang/Exception")) (by simp [vf_L])) (h (.instanceMethod (Bundle.init0 "java/lang/Exception")) (by simp [vf_L, Bundle.chain0Atoms, Bundle.passAtoms])) (bytes := Bundle.five) (maxL := 1) (h (.code (Bundle.init0 "java/lang/Exception") Bundle.five 1 none) (by simp [vf_L, Bundle.chain0Atoms, Bundle.passAtoms]))
    (f := g) hg (a := a) (rest := rest) hstack hd6
  cases Option.some.inj (hnC.symm.trans hP1m)
  have X₁ := X.noted hW₁
  obtain ⟨vm₂, X₂, st2⟩ := X₁.ctorPlainOffV hexec (g := { g with stack := rest }) hg hsize T L Z LZ (P1 :: Ps)
    (fun P hP => by rcases List.mem_cons.mp hP with rfl | hP; exact L1; exact hL P hP) ⟨hlink1, hlink⟩ (u0 := u0) (sen := sen) (self := a) (cell := freshCell cX kX) (cellS := cellS)
    hcell (fun _ => by simp) (by simp) rfl rfl hsel0 hselF hcellS hneS hknownS (by rw [hkeep _ (hout' _)]; exact hu0) (by rw [hkeep _ (hout' _)]; exact hsen)
    (Takes.of_laid hk hord tyC (by rw [Y.causeType]; rfl)) (Takes.of_laid hk hord tyS (by rw [Y.stackType]; exact fits_refV_array _ u0)) (Takes.of_laid hk hord tyP (by rw [Y.suppType]; exact fits_refV_object _ sen)) Y.objLocals hskip htr [] hd6
    (by simp only [List.length_cons, hlen]; exact hRframes) (by simp only [List.length_cons, hlen]; exact hRlocals)
  refine ⟨vm₂, _, _, X₂, fun y hy => ?_, rfl, rfl, ?_, fun target hwalk => st1 _ (fun acts => ?_)⟩
  · simp only [List.nil_append, List.mem_cons, List.not_mem_nil, or_false] at hy
    rcases hy with rfl | rfl | rfl | rfl <;> rfl
  · simp [preparedCellV, Cell.setSlot]
  · rw [doInvoke_state]
    exact st2 _ hwalk
/-- what a Fault's constructor is called with: its fresh cell, and a number -/
def vf_Pc (E : vEnv) (q : Nat) (n : Int32) (cX : ClassId) : Array Value → State → Prop := fun args U => args = #[.ref q, .int n] ∧ U.vm.findClass "NobodyBeenAft$Fault" = some cX ∧ (∃ kX : Class, U.vm.classes[cX]? = some kX ∧ U.heap[q]? = some (freshCell cX kX)) ∧ E.1 ≤ q ∧ vEv E U U.heap ∧ ∀ w ∈ vNest, va_Nw w U
def vf_Qc (q : Nat) (n : Int32) (cX : ClassId) : Array Value → State → Outcome → State → Prop := fun _ st o t => o = .returned none ∧ t.heap.size = st.heap.size ∧ (∀ x, x ≠ q → t.heap[x]? = st.heap[x]?) ∧ ∃ ce : Cell, t.heap[q]? = some ce ∧ ce.cls = cX ∧ ce.vm = .none ∧ ∀ i, SlotIs t "NobodyBeenAft$Fault" "at" "I" i → ce.slots[i]? = some (.int n)
theorem vf_blind {E : vEnv} {q : Nat} {n : Int32} {cX : ClassId} : FrameBlind (vf_Pc E q n cX) := fun a U g mk h => by
  obtain ⟨h1, h2, h3, h5, h6, h7⟩ := h
  exact ⟨h1, h2, h3, h5, vEv.warm (s := U) (U := U.calling g mk a) (State.WarmedH.refl U) h6, vNest_warm (s := U) (U := U.calling g mk a) (State.WarmedH.refl U) h7⟩
theorem vf_met {l : Launch} (hl : l.stackTraces = false) (E : vEnv) (q : Nat) (n : Int32) (cX : ClassId) : Met l yX6_init (ws_ yX6_init cX6_init 2 none) (vRoom 3 0 0) (vf_Pc E q n cX) (vf_Qc q n cX) 0 0 (vA E) := by
  refine Met.ofW (cc := cX6_init) (maxL := 2) (ret := none) (by decide +kernel) rfl ?_
  intro p e s m args below meth c s₁ B hml hv
  obtain ⟨rfl, hfX, ⟨kX, hkX, hcell⟩, hqE, hEv, hNe⟩ := hv
  have hts := atoms_spec (ws := ws_ yX6_init cX6_init 2 none) B.pre
  have hts : ∀ w ∈ lw_all, w.before _ s = true := fun w h => hts w (List.mem_cons_of_mem _ h)
  have hown : s.vm.findClass "NobodyBeenAft$Fault" = some m.cls := findClass_of_methodNamed B.named
  have hl9 := lv_entry [Value.ref q, .int n] (n := 2) (Nat.le_of_ble_eq_true rfl)
  rw [lg_entry_eq]
  rw [← hml] at hl9 ⊢
  generalize hls9 : ((lg_sl [Value.ref q, .int n] ++ List.replicate (c.maxLocals - (lg_sl [Value.ref q, .int n]).length) Slot.unset).toArray) = ls9 at hl9 ⊢
  refine lv_aload_n (k := 0) B.exec B.bytes dX6_init_0 rfl (hl9.2.2 (0, .ref q) (by simp [lv_args])) ?_
  intro T hT X
  have htr : e.platform.stackTraces = false := (show e.platform.stackTraces = l.stackTraces by rw [X.admits.platform]).trans hl
  have hat := at_fa hts hNe
  have hall : ∀ w ∈ vf_L, w.before _ s = true := vx_own hat (vx_isRefq hEv.2.2.2.2.1.1) (vx_isRefq hEv.2.2.2.2.2.1.1) hEv.2.2.2.2.1.2.word hEv.2.2.2.2.2.1.2.word
  obtain ⟨vm, ce, L, X2, hL, hc1, hc2, hc3, go⟩ := vf_super X B.exec htr hown hall hfX hkX (by rw [hT]; exact hcell) (g := F0 m 1 ls9 [.ref q]) rfl (by exact hl9.1) (rest := []) rfl (by rw [B.bytes]; exact dX6_init_1) (by show 3 < 3 + 1; decide) (by show 2 * 0 + 0 + 54 ≤ 64 * (3 + 1); decide)
  have hlt : q < (T.setVm vm).heap.size := by
    have := (Array.getElem?_eq_some_iff.mp hcell).1
    show q < T.heap.size
    rw [hT]
    exact this
  have hcell2 : ((T.setVm vm).setCell q ce).heap[q]? = some ce := heapAt_setCell_self (s := T.setVm vm) ce hlt
  have hoth : ∀ x, x ≠ q → ((T.setVm vm).setCell q ce).heap[x]? = s.heap[x]? := fun x hx => by
    rw [State.heap_setCell_other (Ne.symm hx), ← hT]
    rfl
  have hsz : ((T.setVm vm).setCell q ce).heap.size = s.heap.size := by
    rw [show ∀ (S9 : State) (a9 : Addr) (c9 : Cell), (S9.setCell a9 c9).heap.size = S9.heap.size from fun S9 a9 c9 => by simp [State.setCell], ← hT]
    rfl
  generalize ((T.setVm vm).setCell q ce) = T2 at X2 go hcell2 hoth hsz
  have hfl : Cond.laysFinal "NobodyBeenAft$Fault" "NobodyBeenAft$Fault" "at" "I" ∈ lw_all := q442
  obtain ⟨c0, k0, cf, kf, fi, fd, r1, r2, hi, hst, -, hcast, hown2, hty, -⟩ := Cond.laysFinal_spec (hts _ hfl)
  cases Option.some.inj (hfX.symm.trans r1)
  cases Option.some.inj (hkX.symm.trans r2)
  have hcf : m.cls = cf := Option.some.inj (hown.symm.trans hown2)
  have hsl : fd.slot < ce.slots.size := by
    rw [hc3]
    have := (Array.getElem?_eq_some_iff.mp hty).1
    simpa [freshCell] using this
  have hord : kX.kind = .ordinary := by
    obtain ⟨c1, kX', hc1', hk', hord, -⟩ := Cond.instantiable_spec (hall (.instantiable "NobodyBeenAft$Fault" 7) (by simp [vf_L]))
    cases Option.some.inj (hc1'.symm.trans hfX)
    cases Option.some.inj (hk'.symm.trans hkX)
    exact hord
  have h6 := u_fits hfX hkX hord (Or.inr (hts _ hfl)) hi (ty := .int) (by decide +kernel) (v := Value.int n) rfl rfl
  have w : W p l e (headSpec (ws_ yX6_init cX6_init 2 none) (vRoom 3 0 0)).room s m [Value.ref q, .int n].toArray below meth c T2.heap L 0 0 (MQ below (vf_Qc q n cX) [Value.ref q, .int n].toArray s 0 0 (vA E)) (F0 m 4 ls9 []) := by
    refine lv_aload_n (k := 0) B.exec B.bytes dX6_init_4 rfl (hl9.2.2 (0, .ref q) (by simp [lv_args])) ?_
    refine lv_iload_n (k := 1) B.exec B.bytes dX6_init_5 rfl (hl9.2.2 (1, .int n) (by simp [lv_args, Value.category])) ?_
    refine W.putFinK B.exec B.bytes hown (hts _ q435) hi hst hcf (name_of_methodNamed B.named B.method).1 (by rw [hc1]; exact h6) hcell2 hc2 hsl rfl rfl dX6_init_6 fun H' e1 e2 e3 => ?_
    refine W.vret B.exec B.bytes B.returns (fun t ht hWt => ⟨rfl, by rw [ht, e2, hsz], fun x hx => by rw [ht, e3 x hx, hoth x hx], ce.setSlot fd.slot (Value.int n), by rw [ht]; exact e1, hc1, hc2, fun i hi9 => ?_⟩) (fun y hy => ?_) dX6_init_9 B.notSynchronized
    · rcases List.mem_append.mp hy with h | h
      · show E.1 ≤ y.base
        rw [hL y h]
        exact hqE
      · rw [List.mem_singleton.mp h]
        exact hqE
    · obtain ⟨c8, k8, i8, f8, h8, h9⟩ := hi9
      obtain ⟨c6, k6, i6, f6, h6', h7'⟩ := slotIs_moved hWt.alike (⟨_, _, _, _, hi, rfl⟩ : SlotIs s "NobodyBeenAft$Fault" "at" "I" fd.slot)
      have h7 := h6'.symm.trans h8
      simp only [Option.some.injEq, Prod.mk.injEq] at h7
      obtain ⟨-, -, -, rfl⟩ := h7
      rw [← h9, h7']
      simp [Cell.setSlot, Array.getElem?_setIfInBounds, hsl]
  obtain ⟨t, a1, b1⟩ := w T2 rfl X2
  exact ⟨t, go t a1, b1⟩
section VMK
variable {α : Type} {P : vX → Prop} {emb : α → vRes} {cc : ByteArray} {nL : Nat} {own : String} {ret : Option FieldType} {d : Nat} {σ : vMem} {pc : Nat} {ls : List (Option Value)} {st rest : List Value} {t : Option α}
theorem vRel.Dd {E : vEnv} {dA : Nat → ClassId} : va_D (vA E) (wl E dA σ) := by
  refine ⟨fun i j p q hi hj h => ?_, fun k q hk => ?_⟩
  · have h1 := (List.getElem?_eq_some_iff.mp hi).1
    have h2 := (List.getElem?_eq_some_iff.mp hj).1
    rw [wl_len] at h1 h2
    rw [wl_get h1] at hi
    rw [wl_get h2] at hj
    cases hi
    cases hj
    have h : E.1 + i = E.1 + j := h
    omega
  · have h1 := (List.getElem?_eq_some_iff.mp hk).1
    rw [wl_len] at h1
    rw [wl_get h1] at hk
    cases hk
    exact Nat.le_add_right _ _
/-- new NoSuchElementException() -/
theorem V_nsee {f : Nat → vMem → Option α} (hC : vPx P cc nL "NobodyBeenAft" ret d) (hd : 5 ≤ d) (hl0 : ∀ X, P X → X.l.stackTraces = false) (d0 : decode cc pc = .ok (.new 196, 3)) (d3 : decode cc (pc + 3) = .ok (.dup, 1)) (d4 : decode cc (pc + 4) = .ok (.invokespecial 198, 3)) (hroom : (st.map fun v => v.category).sum ≤ 8) (kk : ∀ a σ1, V P emb σ1 (pc + 7) ls (.ref a :: st) (f a σ1)) : V P emb σ pc ls st (nw σ 17 6 f) := by
  intro r hr
  unfold nw at hr
  by_cases hs : mn σ < SB
  · rw [if_pos hs] at hr
    obtain ⟨h1, h2, h3⟩ := kk (mn σ) (alc σ 17 6) r hr
    have e1 : mn (alc σ 17 6) = mn σ + 1 := rfl
    have e2 : mz (alc σ 17 6) = mz σ + 6 := rfl
    rw [e1] at h1
    rw [e2] at h2
    refine ⟨by omega, by omega, fun X hX g1 g2 g3 g4 H locs L hR hS hL => ?_⟩
    have hK := (hC X hX).kn
    have hfr := (hC X hX).fr
    have hlo := (hC X hX).lo
    have hsz := (hC X hX).hs
    refine vx_make0 (cls := "java/util/NoSuchElementException") (names := ["java/lang/RuntimeException", "java/lang/Exception"]) (ik := 196) (ic := 198) (ci := 17) (A := vA X.E) (T0 := TJ9) (D := X.D) (cl := vcl) (tys := vtys X.dA) (ws := wl X.E X.dA σ) (hC X hX).exec (hC X hX).code (hl0 X hX) (hC X hX).hown (by decide) (by decide) ((hC X hX).ts _ q1224) ((hC X hX).ts _ q105) (at_ns (hC X hX).ts hK.2.1) ?_ hK.2.2.2.2.2.2.2.1 hK.2.2.2.2.2.2.2.2.1 hS hL.1 d0 d3 d4 hK.1 hR.P vRel.Dd (fun q hq => by show X.E.1 ≤ q; omega) rfl (by show 2 + 3 < X.R.frames; omega) (by rw [vCat]; show _ + 81 ≤ _; omega) (by omega) (by omega) (fun q H1 hP1 hD1 hS1 => ?_)
    · intro w hw
      rcases List.mem_cons.mp hw with rfl | hw
      · decide +kernel
      rcases List.mem_cons.mp hw with rfl | hw
      · decide +kernel
      · exact at_ns_g w hw
    refine W_size (fun hz => ?_)
    obtain ⟨p1, p2, p3, p4⟩ := vRel_app hP1 hD1 (by omega)
    subst p1
    have hadr : adr X.E (mn σ) = X.E.1 + mn σ := adr_lt hs
    have hrel : vRel X.E X.D X.dA (alc σ 17 6) H1 := by
      refine ⟨by rw [p2, e1]; omega, by rw [e1]; omega, fun b hb => alc_kn0 hR.2.2.1 hb, fun b hb => ?_⟩
      rw [e1] at hb
      by_cases hb9 : b = mn σ
      · subst hb9
        rw [ent_obj alc_knd (by decide)]
        exact p4
      · rw [alc_old hb9]
        exact p3 b (by omega)
    have k9 := h3 X hX (by omega) (by omega) g3 g4 H1 locs L hrel hS1 hL
    have c1 : mn (alc σ 17 6) - X.n0 = mn σ - X.n0 + 1 := by rw [e1]; omega
    have c2 : mz (alc σ 17 6) - X.s0 = mz σ - X.s0 + 6 := by rw [e2]; omega
    rw [c1, c2, List.map_cons] at k9
    have e9 : rv X.E (.ref (mn σ)) = .ref (X.E.1 + mn σ) := by show Value.ref (adr X.E (mn σ)) = _; rw [hadr]
    rw [e9] at k9
    exact k9
  · rw [if_neg hs] at hr
    cases hr
/-- a Fault's constructor, called over its fresh cell -/
theorem vf_call {X : vX} (hX : vCx X cc nL "NobodyBeenAft$Words" ret d) (hd : 4 ≤ d) (hl : X.l.stackTraces = false) {n : Int32} {H H1 : Heap} {locs : List Loc} {L : Array Slot} {Q : State → Prop} {cells slots : Nat} {kC : Class} {rs : List Value} (hR : vRel X.E X.D X.dA σ H) (hs : mn σ < SB) (hS : va_S (vA X.E) X.s.heap H locs) (hL : L.size = nL) (f1 : X.s.vm.classes[X.D.1 6]? = some kC) (f2 : H1[H.size]? = some (freshCell (X.D.1 6) kC)) (z1 : H1.size = H.size + 1) (o1 : ∀ q, q < H.size → H1[q]? = H[q]?) (hdg : decode cc pc = .ok (.invokespecial 33, 3)) (hroom : (rs.map fun v => v.category).sum ≤ 8) (hf1 : cells ≤ X.R.cells) (hf2 : slots ≤ X.R.slots)
    (kk : ∀ (H2 : Heap) (locs2 : List Loc), vRel X.E X.D X.dA (si (alc σ 6 7) (mn σ) 0 n) H2 → va_S (vA X.E) X.s.heap H2 locs2 → W X.p X.l X.e X.R X.s X.m X.args X.below X.meth X.c H2 locs2 cells slots Q (F0 X.m (pc + 3) L rs)) :
    W X.p X.l X.e X.R X.s X.m X.args X.below X.meth X.c H1 locs cells slots Q (F0 X.m pc L (.int n :: .ref H.size :: rs)) := by
  have hK := hX.kn
  have hfr := hX.fr
  have hlo := hX.lo
  have hsz := hX.hs
  have hS1 : va_S (vA X.E) X.s.heap H1 locs := vS_new hS z1 o1
  have hEH : X.E.1 ≤ H.size := by rw [hR.1]; exact Nat.le_add_right _ _
  have hrun := va_runI (p := X.p) (l := X.l) (e := X.e) (R := X.R) (s := X.s) (below := X.below) (meth := X.meth) (H := H1) (locs := locs) (cells := cells) (slots := slots) (b := H.size) (As := [.int n]) (rest := rs) (n := 1) (index := 33) (y := yX6_init) (bytes := cX6_init) (maxL := 2) (g := F0 X.m pc L (.int n :: .ref H.size :: rs)) hX.fix (vf_met hl X.E H.size n (X.D.1 6)) (cwI 1 hX.ts (lw_meth q430) rfl rfl rfl (hX.ts _ q93) (hX.ts _ q428) (hX.ts _ q429) rfl (by decide +kernel) ⟨by show 3 + 1 + 1 ≤ X.R.frames; omega, by show 8 + (2 + 11) + 64 * (3 + 1) ≤ X.R.locals; omega⟩) ⟨vf_blind, fun U hU hW => ⟨rfl, by rw [hW.alike.findClass]; exact (hK.1.1 6 _ rfl).2.1, ?_, hEH, by rw [hU]; exact (hK.2.2.2.kept hS1.2.1).warm hW, vNest_warm hW hK.2.1⟩⟩ rfl rfl hL rfl (lv_room hroom) hdg ⟨by omega, by omega⟩
  · intro T hT XS
    obtain ⟨v, st₀, t, T', L2, e0, XS', hL2, e1, e2, ⟨w1, w2, w3, ce, w4, w5, w6, w7⟩, go⟩ := hrun T hT XS
    cases w1
    rw [e0] at w2 w3
    have hsl : SlotIs t "NobodyBeenAft$Fault" "at" "I" (X.D.2 6 0) := by
      have h1 : SlotIs T' "NobodyBeenAft$Fault" "at" "I" (X.D.2 6 0) := slotIs_moved XS'.warmed.alike ((hK.1.1 6 _ rfl).1 0 (Nat.zero_lt_one))
      obtain ⟨a1, a2, a3, a4, a5, a6⟩ := h1
      refine ⟨a1, a2, a3, a4, ?_, a6⟩
      simpa only [State.fieldFound?, e2] using a5
    have hrel : vRel X.E X.D X.dA (si (alc σ 6 7) (mn σ) 0 n) T'.heap := by
      have hKn : knd (si (alc σ 6 7) (mn σ) 0 n) (mn σ) = 6 := alc_knd
      refine vRel_new (σ' := si (alc σ 6 7) (mn σ) 0 n) hR hs (by rw [e1, w2, z1]) (fun q hq => by rw [e1, w3 q (Nat.ne_of_lt hq)]; exact o1 q hq) rfl (fun b hb => alc_kn0 (k := 6) (n := 7) hR.2.2.1 hb) (fun b hb => ?_) ?_
      · have hb9 : b ≠ mn σ := by omega
        refine (ent_congr (σ' := si (alc σ 6 7) (mn σ) 0 n) (σ := alc σ 6 7) rfl (fun j => ?_) (fun j => rfl) (fun j => rfl)).trans (alc_old hb9)
        show (if b = mn σ ∧ j = 0 then n else _) = _
        rw [if_neg (fun h => hb9 h.1)]
        rfl
      · rw [ent_obj hKn (by decide)]
        refine ⟨_, rfl, ce, ?_, w5, w6, fun k hk => ?_⟩
        · rw [e1, ← hR.1]; exact w4
        · have hk0 : k = 0 := Nat.lt_one_iff.mp hk
          subst hk0
          rw [w7 _ hsl]
          show some (Value.int n) = some (Value.int (if mn σ = mn σ ∧ (0 : Nat) = 0 then n else _))
          rw [if_pos ⟨rfl, rfl⟩]
    have hS2 : va_S (vA X.E) X.s.heap T'.heap (locs ++ L2) := ⟨Nat.le_trans hS1.1 (by rw [e1, w2]; exact Nat.le_refl _), fun q q1 q2 => by
      have hq9 : q ≠ H.size := fun h => q2 (by rw [h]; exact hEH)
      rw [e1, w3 q hq9]
      exact hS1.2.1 q q1 q2, fun q hq => by
        rcases List.mem_append.mp hq with h | h
        · exact hS1.2.2 q h
        · exact hL2 q h⟩
    obtain ⟨t2, a1, b1⟩ := kk T'.heap (locs ++ L2) hrel hS2 T' rfl (by simpa using XS')
    exact ⟨t2, go t2 a1, b1⟩
  · obtain ⟨k', hk', he⟩ := hW.alike.2.2 _ _ f1
    refine ⟨k', hk', ?_⟩
    rw [hU, f2, he]
theorem V_fault0 {a : Nat} {f : vMem → Option α} (hC : vPx P cc nL "NobodyBeenAft$Words" ret d) (hd : 4 ≤ d) (hl0 : ∀ X, P X → X.l.stackTraces = false) (d0 : decode cc pc = .ok (.new 31, 3)) (d3 : decode cc (pc + 3) = .ok (.dup, 1)) (d4 : decode cc (pc + 3 + 1) = .ok (.aload_n 0, 1)) (d5 : decode cc (pc + 3 + 1 + 1) = .ok (.getfield 28, 3)) (d8 : decode cc (pc + 3 + 1 + 1 + 3) = .ok (.invokespecial 33, 3)) (d9 : decode cc (pc + 3 + 1 + 1 + 3 + 3) = .ok (.athrow, 1)) (hls : ls[0]? = some (some (.ref a))) (hroom : (st.map fun v => v.category).sum ≤ 7) (kk : ∀ σ1, VT P emb σ1 (pc + 3 + 1 + 1 + 3 + 3) ls (mn σ) (f σ1)) : V P emb σ pc ls st (cko σ a [5, 10, 11] (ck (mn σ < SB) (vl (si (alc σ 6 7) (mn σ) 0 (gi σ a 3)) f))) := by
  refine V_cko (fun hm => ?_)
  intro r hr
  unfold ck at hr
  by_cases hs : mn σ < SB
  · rw [if_pos hs] at hr
    obtain ⟨h1, h2, h3⟩ := kk (si (alc σ 6 7) (mn σ) 0 (gi σ a 3)) r hr
    have e1 : mn (si (alc σ 6 7) (mn σ) 0 (gi σ a 3)) = mn σ + 1 := rfl
    have e2 : mz (si (alc σ 6 7) (mn σ) 0 (gi σ a 3)) = mz σ + 7 := rfl
    rw [e1] at h1
    rw [e2] at h2
    refine ⟨by omega, by omega, fun X hX g1 g2 g3 g4 H locs L hR hS hL => ?_⟩
    have hK := (hC X hX).kn
    have hKn := hK.1.1 6 _ rfl
    have hfr := (hC X hX).fr
    have hk0 : knd σ a ≠ 0 := by
      intro h
      rw [h] at hm
      revert hm
      decide
    have hk9 : knd σ a < 100 := by
      simp only [List.mem_cons, List.not_mem_nil, or_false] at hm
      omega
    refine W.newcK (hC X hX).exec (hC X hX).code (hC X hX).hown ((hC X hX).ts _ q389) ((hC X hX).ts _ q390) ((hC X hX).ts _ q93) rfl d0 (by omega) (by omega) hKn.2.1 rfl fun H1 kC hkC f1 z1 o1 => ?_
    have hP1 : va_P X.D vcl (wl X.E X.dA σ) H1 := fun k q hq => (hR.P k q hq).kept (o1 _ (hR.P k q hq).lt)
    have he : (wl X.E X.dA σ)[a]? = some (adr X.E a, .inr (knd σ a, flds X.E σ a (vF (knd σ a)) 0)) := by
      rw [wl_get (hR.lt hk0), hR.adr hk0, ent_obj rfl hk9]
    obtain ⟨hx0, hx1, C9, T9, N9, hcl, hin, hk, hnm, hds, hsame, hvf⟩ := fl_X5_28 _ hm
    refine lv_dup (hC X hX).exec (hC X hX).code d3 rfl ?_
    refine lv_aload_n (k := 0) (hC X hX).exec (hC X hX).code d4 rfl (vls_at hL hls) ?_
    have hsame9 := vFld_same (hC X hX).ts hsame
    rw [← hnm, ← hds] at hsame9
    refine va_get (hC X hX).exec (hC X hX).code (hC X hX).ts hin (hC X hX).hown hK.1 hP1 a he hcl 3 hk (by rw [hnm, hds]; exact (hC X hX).ts _ q335) hsame9 (v := .int (gi σ a 3)) (by rw [flds_get _ 0 3 0 hvf]; rfl) d5 ?_
    have hf9 := vf_call (σ := σ) (rs := .ref H.size :: st.map (rv X.E)) (n := gi σ a 3) (cells := mn σ - X.n0 + 1) (slots := mz σ - X.s0 + 7) (Q := X.Q (emb r)) (pc := pc + 3 + 1 + 1 + 3) (hC X hX) hd (hl0 X hX) hR hs hS (by rw [← (hC X hX).ml]; exact hL.1) hkC f1 z1 o1 d8 (by show 1 + ((st.map (rv X.E)).map fun v => v.category).sum ≤ 8; rw [vCat]; omega) (by omega) (by omega) (fun H2 locs2 hR2 hS2 => ?_)
    · exact hf9
    · have k9 := h3 X hX (by rw [e1]; omega) (by rw [e2]; omega) g3 g4 H2 locs2 L (st.map (rv X.E)) hR2 hS2 hL
      have c1 : mn (si (alc σ 6 7) (mn σ) 0 (gi σ a 3)) - X.n0 = mn σ - X.n0 + 1 := by rw [e1]; omega
      have c2 : mz (si (alc σ 6 7) (mn σ) 0 (gi σ a 3)) - X.s0 = mz σ - X.s0 + 7 := by rw [e2]; omega
      rw [c1, c2] at k9
      have hadr : adr X.E (mn σ) = H.size := by rw [adr_lt hs, hR.1]
      rw [hadr] at k9
      exact vx_athrow (hC X hX).exec (hC X hX).code d9 k9
  · rw [if_neg hs] at hr
    cases hr
theorem V_fault1 {a : Nat} {f : vMem → Option α} (hC : vPx P cc nL "NobodyBeenAft$Words" ret d) (hd : 4 ≤ d) (hl0 : ∀ X, P X → X.l.stackTraces = false) (d0 : decode cc pc = .ok (.new 31, 3)) (d3 : decode cc (pc + 3) = .ok (.dup, 1)) (d4 : decode cc (pc + 3 + 1) = .ok (.aload_n 0, 1)) (d5 : decode cc (pc + 3 + 1 + 1) = .ok (.getfield 28, 3)) (d6 : decode cc (pc + 3 + 1 + 1 + 3) = .ok (.iconst 1, 1)) (d7 : decode cc (pc + 3 + 1 + 1 + 3 + 1) = .ok (.isub, 1)) (d8 : decode cc (pc + 3 + 1 + 1 + 3 + 1 + 1) = .ok (.invokespecial 33, 3)) (d9 : decode cc (pc + 3 + 1 + 1 + 3 + 1 + 1 + 3) = .ok (.athrow, 1)) (hls : ls[0]? = some (some (.ref a))) (hroom : (st.map fun v => v.category).sum ≤ 7) (kk : ∀ σ1, VT P emb σ1 (pc + 3 + 1 + 1 + 3 + 1 + 1 + 3) ls (mn σ) (f σ1)) : V P emb σ pc ls st (cko σ a [5, 10, 11] (ck (mn σ < SB) (vl (si (alc σ 6 7) (mn σ) 0 (gi σ a 3 - 1)) f))) := by
  refine V_cko (fun hm => ?_)
  intro r hr
  unfold ck at hr
  by_cases hs : mn σ < SB
  · rw [if_pos hs] at hr
    obtain ⟨h1, h2, h3⟩ := kk (si (alc σ 6 7) (mn σ) 0 (gi σ a 3 - 1)) r hr
    have e1 : mn (si (alc σ 6 7) (mn σ) 0 (gi σ a 3 - 1)) = mn σ + 1 := rfl
    have e2 : mz (si (alc σ 6 7) (mn σ) 0 (gi σ a 3 - 1)) = mz σ + 7 := rfl
    rw [e1] at h1
    rw [e2] at h2
    refine ⟨by omega, by omega, fun X hX g1 g2 g3 g4 H locs L hR hS hL => ?_⟩
    have hK := (hC X hX).kn
    have hKn := hK.1.1 6 _ rfl
    have hfr := (hC X hX).fr
    have hk0 : knd σ a ≠ 0 := by
      intro h
      rw [h] at hm
      revert hm
      decide
    have hk9 : knd σ a < 100 := by
      simp only [List.mem_cons, List.not_mem_nil, or_false] at hm
      omega
    refine W.newcK (hC X hX).exec (hC X hX).code (hC X hX).hown ((hC X hX).ts _ q389) ((hC X hX).ts _ q390) ((hC X hX).ts _ q93) rfl d0 (by omega) (by omega) hKn.2.1 rfl fun H1 kC hkC f1 z1 o1 => ?_
    have hP1 : va_P X.D vcl (wl X.E X.dA σ) H1 := fun k q hq => (hR.P k q hq).kept (o1 _ (hR.P k q hq).lt)
    have he : (wl X.E X.dA σ)[a]? = some (adr X.E a, .inr (knd σ a, flds X.E σ a (vF (knd σ a)) 0)) := by
      rw [wl_get (hR.lt hk0), hR.adr hk0, ent_obj rfl hk9]
    obtain ⟨hx0, hx1, C9, T9, N9, hcl, hin, hk, hnm, hds, hsame, hvf⟩ := fl_X5_28 _ hm
    refine lv_dup (hC X hX).exec (hC X hX).code d3 rfl ?_
    refine lv_aload_n (k := 0) (hC X hX).exec (hC X hX).code d4 rfl (vls_at hL hls) ?_
    have hsame9 := vFld_same (hC X hX).ts hsame
    rw [← hnm, ← hds] at hsame9
    refine va_get (hC X hX).exec (hC X hX).code (hC X hX).ts hin (hC X hX).hown hK.1 hP1 a he hcl 3 hk (by rw [hnm, hds]; exact (hC X hX).ts _ q335) hsame9 (v := .int (gi σ a 3)) (by rw [flds_get _ 0 3 0 hvf]; rfl) d5 ?_
    refine lv_iconst (hC X hX).exec (hC X hX).code d6 (v := 1) rfl ?_
    refine lv_isub (hC X hX).exec (hC X hX).code d7 ?_
    have hf9 := vf_call (σ := σ) (rs := .ref H.size :: st.map (rv X.E)) (n := gi σ a 3 - 1) (cells := mn σ - X.n0 + 1) (slots := mz σ - X.s0 + 7) (Q := X.Q (emb r)) (pc := pc + 3 + 1 + 1 + 3 + 1 + 1) (hC X hX) hd (hl0 X hX) hR hs hS (by rw [← (hC X hX).ml]; exact hL.1) hkC f1 z1 o1 d8 (by show 1 + ((st.map (rv X.E)).map fun v => v.category).sum ≤ 8; rw [vCat]; omega) (by omega) (by omega) (fun H2 locs2 hR2 hS2 => ?_)
    · exact hf9
    · have k9 := h3 X hX (by rw [e1]; omega) (by rw [e2]; omega) g3 g4 H2 locs2 L (st.map (rv X.E)) hR2 hS2 hL
      have c1 : mn (si (alc σ 6 7) (mn σ) 0 (gi σ a 3 - 1)) - X.n0 = mn σ - X.n0 + 1 := by rw [e1]; omega
      have c2 : mz (si (alc σ 6 7) (mn σ) 0 (gi σ a 3 - 1)) - X.s0 = mz σ - X.s0 + 7 := by rw [e2]; omega
      rw [c1, c2] at k9
      have hadr : adr X.E (mn σ) = H.size := by rw [adr_lt hs, hR.1]
      rw [hadr] at k9
      exact vx_athrow (hC X hX).exec (hC X hX).code d9 k9
  · rw [if_neg hs] at hr
    cases hr
/-- a new array of ints, filled -/
def alcf (σ : vMem) (k n : Nat) (g : Nat → Int32) : vMem := (fun b j => if b = mn σ then g j else σ.1 b j, fun b j => if b = mn σ then 0 else σ.2.1 b j, fun b j => if b = mn σ then none else σ.2.2.1 b j, fun b => if b = mn σ then (k, n) else σ.2.2.2.1 b, mn σ + 1, mz σ + n)
/-- the bytes of a text that the machine makes -/
def nbv (i : Int32) (j : Nat) : Int32 := match (Bundle.bytesSlots (stringToUtf16 (toString i)))[j]? with
  | some (.int v) => v
  | _ => 0
def nbs (i : Int32) : Nat := (stringBytes (stringToUtf16 (toString i))).size
/-- behind a NegativeArraySizeException: its text's bytes, its text, itself -/
def nas (σ : vMem) (i : Int32) : vMem := alc (alc (alcf σ 102 (nbs i) (nbv i)) 33 4) 18 6
/-- a new array, or a NegativeArraySizeException -/
def nwx {α : Type} (σ : vMem) (k : Nat) (i : Int32) (f : Nat → vMem → Option α) (h : Nat → vMem → Option α) : Option α := if i < 0 then (if mn σ + 3 ≤ SB then h (mn σ + 2) (nas σ i) else none) else nwa σ k i f
theorem nbs_le (i : Int32) : nbs i ≤ 44 := negative_text_bytes i
theorem bytesSlots_int : ∀ (l : List (Value × Nat)) (a : Array Value), (∀ p ∈ l, ∃ v, p.1 = Value.int v) → (∀ (j : Nat) (x : Value), a[j]? = some x → ∃ v, x = Value.int v) → ∀ (j : Nat) (x : Value), (l.foldl (fun a p => a.setIfInBounds p.2 p.1) a)[j]? = some x → ∃ v, x = Value.int v
  | [], a, _, h, j, x, hx => h j x hx
  | p :: l, a, hl, h, j, x, hx => by
    refine bytesSlots_int l (a.setIfInBounds p.2 p.1) (fun q hq => hl q (List.mem_cons_of_mem _ hq)) (fun k y hy => ?_) j x hx
    rw [Array.getElem?_setIfInBounds] at hy
    by_cases e : p.2 = k
    · rw [if_pos e] at hy
      by_cases e2 : p.2 < a.size
      · rw [if_pos e2] at hy
        cases hy
        exact hl p List.mem_cons_self
      · rw [if_neg e2] at hy
        cases hy
    · rw [if_neg e] at hy
      exact h k y hy
theorem bytes_int (u : Array UInt16) : ∀ v ∈ (stringBytes u).toList, ∃ x, v = Value.int x := by
  intro v hv
  unfold stringBytes at hv
  split at hv
  · simp only [Array.toList_map, List.mem_map] at hv
    obtain ⟨w, -, rfl⟩ := hv
    exact ⟨_, rfl⟩
  · simp only [Array.mem_toList_iff, Array.mem_flatMap] at hv
    obtain ⟨w, -, hw⟩ := hv
    simp at hw
    rcases hw with rfl | rfl
    · exact ⟨_, rfl⟩
    · exact ⟨_, rfl⟩
theorem bytes_arr (cB : ClassId) (i : Int32) : bytesOf cB (stringToUtf16 (toString i)) = arrV cB (nbs i) (fun j => .int (nbv i j)) := by
  obtain ⟨p1, p2, p3, p4⟩ := bytesOf_plain cB (stringToUtf16 (toString i))
  have p5 := bytesOf_slots cB (stringToUtf16 (toString i))
  have p6 : (Bundle.bytesSlots (stringToUtf16 (toString i))).size = nbs i := by
    rw [← p5, (Cell.writeAll_facts _ _).2.2]
    simp [bytes0, nbs]
  have p7 : Bundle.bytesSlots (stringToUtf16 (toString i)) = (arrV cB (nbs i) (fun j => .int (nbv i j))).slots := by
    apply Array.ext_getElem?
    intro j
    by_cases hj : j < nbs i
    · rw [arrV_read cB _ hj]
      have h1 : (Bundle.bytesSlots (stringToUtf16 (toString i)))[j]? = some (Bundle.bytesSlots (stringToUtf16 (toString i)))[j] := Array.getElem?_eq_getElem (by omega)
      obtain ⟨v, hv⟩ := bytesSlots_int _ _ (fun p hp => bytes_int _ _ (List.fst_mem_of_mem_zipIdx hp)) (fun k y hy => by
        rw [Array.getElem?_replicate] at hy
        split at hy
        · cases hy; exact ⟨_, rfl⟩
        · cases hy) j _ h1
      rw [h1, hv]
      unfold nbv
      rw [h1, hv]
    · rw [Array.getElem?_eq_none (by omega), Array.getElem?_eq_none (by rw [arrV_size]; omega)]
  rw [p7] at p5
  cases hb : bytesOf cB (stringToUtf16 (toString i)) with
  | mk a b c dd ee =>
    rw [hb] at p1 p2 p3 p4 p5
    simp only at p1 p2 p3 p4 p5
    subst p1 p2 p3 p4 p5
    rfl
theorem alcf_old {E : vEnv} {dA : Nat → ClassId} {k n b : Nat} {g : Nat → Int32} (hb : b ≠ mn σ) : ent E dA (alcf σ k n g) b = ent E dA σ b :=
  ent_congr (by show (if b = mn σ then _ else _) = _; rw [if_neg hb]) (fun j => by show (if b = mn σ then _ else _) = _; rw [if_neg hb]; rfl) (fun j => by show (if b = mn σ then _ else _) = _; rw [if_neg hb]; rfl) (fun j => by show (if b = mn σ then _ else _) = _; rw [if_neg hb]; rfl)
theorem nas_old {E : vEnv} {dA : Nat → ClassId} {i : Int32} {b : Nat} (hb : b < mn σ) : ent E dA (nas σ i) b = ent E dA σ b := by
  unfold nas
  rw [alc_old (by show b ≠ mn σ + 1 + 1; omega), alc_old (by show b ≠ mn σ + 1; omega), alcf_old (by omega)]
theorem V_newx {k : Nat} {atype : ArrayType} {i : Int32} {f h : Nat → vMem → Option α} (hC : vPx P cc nL own ret d) (hd : 162 ≤ d) (hl0 : ∀ X, P X → X.l.stackTraces = false) (hroom : (st.map fun v => v.category).sum ≤ 7) (hdg : decode cc pc = .ok (.newarray atype, 2)) (row : (∀ a σ1, V P emb σ1 (pc + 2) ls (.ref a :: st) (f a σ1)) → V P emb σ pc ls (.int i :: st) (nwa σ k i f)) (kk : ∀ a σ1, V P emb σ1 (pc + 2) ls (.ref a :: st) (f a σ1)) (kx : ∀ a σ1, VT P emb σ1 pc ls a (h a σ1)) : V P emb σ pc ls (.int i :: st) (nwx σ k i f h) := by
  intro r hr
  unfold nwx at hr
  by_cases hi : i < 0
  · rw [if_pos hi] at hr
    by_cases hs : mn σ + 3 ≤ SB
    · rw [if_pos hs] at hr
      obtain ⟨h1, h2, h3⟩ := kx (mn σ + 2) (nas σ i) r hr
      have e1 : mn (nas σ i) = mn σ + 3 := rfl
      have e2 : mz (nas σ i) = mz σ + (nbs i + 10) := by show mz σ + nbs i + 4 + 6 = _; omega
      rw [e1] at h1
      rw [e2] at h2
      refine ⟨by omega, by omega, fun X hX g1 g2 g3 g4 H locs L hR hS hL => ?_⟩
      have hK := (hC X hX).kn
      have hfr := (hC X hX).fr
      have hlo := (hC X hX).lo
      refine vx_newarrayZ (hC X hX).exec (hC X hX).code hi hdg (fun tx htx => ?_)
      subst htx
      refine vx_vm2 (names := ["java/lang/RuntimeException", "java/lang/Exception"]) (nb := nbs i) (A := vA X.E) (hC X hX).exec (hl0 X hX) (by decide) (by decide) (by decide) (by decide) (at_na (hC X hX).ts hK.2.1) at_na_g hK.2.2.2.2.2.2.2.1 hK.2.2.2.2.2.2.2.2.1 hS hL.1 (negative_text_modelled hi) (Nat.le_refl _) (Nat.le_trans (nbs_le i) (by decide)) (by show 2 + 4 < X.R.frames; omega) (by rw [vCat]; omega) (by decide) (by omega) (by omega) (hC X hX).lock (fun H1 q9 ce z0 o1 hS1 hce hcv hcl ⟨z1, hq9, ⟨cB, hB, hb⟩, cs, hcs, hcsc, hcsv⟩ => ?_)
      subst hq9
      have hrel : vRel X.E X.D X.dA (nas σ i) H1 := by
        refine vRel_ext (k := 3) hR hs z1 o1 rfl (fun b hb => ?_) (fun b hb => nas_old hb) (fun j hj => ?_)
        · refine alc_kn0 (fun b hb => alc_kn0 (fun b hb => ?_) hb) hb
          show (if b = mn σ then (102, nbs i) else σ.2.2.2.1 b).1 = 0
          have hb : mn σ + 1 ≤ b := hb
          rw [if_neg (by omega)]
          exact hR.2.2.1 b (by omega)
        · have hj3 : j = 0 ∨ j = 1 ∨ j = 2 := by omega
          rcases hj3 with rfl | rfl | rfl
          · have e0 : ent X.E X.dA (nas σ i) (mn σ + 0) = ent X.E X.dA (alcf σ 102 (nbs i) (nbv i)) (mn σ) := by
              unfold nas
              rw [alc_old (by show mn σ + 0 ≠ mn σ + 1 + 1; omega), alc_old (by show mn σ + 0 ≠ mn σ + 1; omega)]
              rfl
            have k0 : (alcf σ 102 (nbs i) (nbv i)).2.2.2.1 (mn σ) = (102, nbs i) := by
              show (if mn σ = mn σ then _ else _) = _
              rw [if_pos rfl]
            have k1 : knd (alcf σ 102 (nbs i) (nbv i)) (mn σ) = 102 := by unfold knd; rw [k0]
            have k2 : len (alcf σ 102 (nbs i) (nbv i)) (mn σ) = nbs i := by unfold len; rw [k0]
            rw [e0, ent_int k1 (by decide) (by decide), k2]
            show H1[X.E.1 + (mn σ + 0)]? = some (vp_cell _ _)
            have hcB : cB = X.dA 102 := by
              have h9 := (hK.1.2 1 _ rfl).2
              exact Option.some.inj (hB.symm.trans h9)
            rw [Nat.add_zero, ← hR.1, hb, bytes_arr, vp_cell_i, hcB]
            refine congrArg some (arrV_congr (fun j _ => ?_))
            show Value.int (nbv i j) = Value.int (if mn σ = mn σ then nbv i j else _)
            rw [if_pos rfl]
          · have e0 : ent X.E X.dA (nas σ i) (mn σ + 1) = .inr (33, []) := by
              unfold nas
              rw [alc_old (by show mn σ + 1 ≠ mn σ + 1 + 1; omega), ent_obj (show knd (alc (alcf σ 102 (nbs i) (nbv i)) 33 4) (mn σ + 1) = 33 from alc_knd) (by decide)]
              rfl
            rw [e0]
            refine ⟨_, rfl, cs, ?_, ?_, hcsv, fun k hk => absurd hk (Nat.not_lt_zero k)⟩
            · show H1[X.E.1 + (mn σ + 1)]? = some cs
              rw [← hcs, hR.1]
              congr 1
            · exact Option.some.inj (hcsc.symm.trans (hK.1.1 33 _ rfl).2.1)
          · have e0 : ent X.E X.dA (nas σ i) (mn σ + 2) = .inr (18, []) := by
              unfold nas
              rw [ent_obj (show knd (alc (alc (alcf σ 102 (nbs i) (nbv i)) 33 4) 18 6) (mn σ + 2) = 18 from alc_knd) (by decide)]
              rfl
            rw [e0]
            refine ⟨_, rfl, ce, ?_, ?_, hcv, fun k hk => absurd hk (Nat.not_lt_zero k)⟩
            · show H1[X.E.1 + (mn σ + 2)]? = some ce
              rw [← hce, hR.1]
              congr 1
            · exact Option.some.inj (hcl.symm.trans (hK.1.1 18 _ rfl).2.1)
      have k9 := h3 X hX (by omega) (by omega) g3 g4 H1 locs L (st.map (rv X.E)) hrel hS1 hL
      have hadr : adr X.E (mn σ + 2) = H.size + 2 := by rw [adr_lt (by omega), hR.1]; omega
      have c1 : mn (nas σ i) - X.n0 = mn σ - X.n0 + 3 := by omega
      have c2 : mz (nas σ i) - X.s0 = mz σ - X.s0 + (nbs i + 10) := by omega
      rw [c1, c2, hadr] at k9
      exact k9
    · rw [if_neg hs] at hr
      cases hr
  · rw [if_neg hi] at hr
    exact row kk r hr
end VMK

