/-! WHAT HOLDS ALL THROUGH A RUN of the cells that were there before: text constants, statics; array classes over others -/
set_option maxRecDepth 100000
abbrev vEnv : Type := Nat × (Nat → Nat)
/-- the cells that the law's run makes -/
def vA (E : vEnv) : Nat → Prop := fun q => E.1 ≤ q
def sIx : List Nat := [199, 226, 231, 233, 235, 319]
def sTx : List String := ["012345678", "lpxn", "<>=", "+-", "*/", "<=>p123456789"]
def sLn : List Nat := [9, 4, 3, 2, 2, 13]
def sBy : List (List Int32) := [[48, 49, 50, 51, 52, 53, 54, 55, 56], [108, 112, 120, 110], [60, 62, 61], [43, 45], [42, 47], [60, 61, 62, 112, 49, 50, 51, 52, 53, 54, 55, 56, 57]]
def vEv (E : vEnv) (U : State) (H : Heap) : Prop :=
  vk_S 6 sLn sBy (fun i => E.2 i) (fun i => E.2 (10 + i)) (vA E) U H ∧ (∀ i, i < 6 → vk_R "NobodyBeenAftModel" (sIx.getD i 0) (sTx.getD i "") (E.2 i) U) ∧
  va_Z "java/lang/String" "COMPACT_STRINGS" "Z" (.int 1) (vA E) U H ∧ (va_Z "jdk/internal/util/Preconditions" "SIOOBE_FORMATTER" "Ljava/util/function/BiFunction;" .null (vA E) U H ∨ va_Z "jdk/internal/util/Preconditions" "SIOOBE_FORMATTER" "Ljava/util/function/BiFunction;" (.ref (E.2 30)) (vA E) U H) ∧
  vx_Zq Bundle.tN "UNASSIGNED_STACK" Bundle.steD (vA E) U H ∧ vx_Zq Bundle.tN "SUPPRESSED_SENTINEL" Bundle.listD (vA E) U H ∧ va_Nc "[S" "[B" U ∧ va_Nc "[I" "[B" U ∧ va_Nc "[I" "[S" U
theorem vEv.kept {E : vEnv} {U : State} {H H1 : Heap} (h : vEv E U H) (hq : ∀ a : Nat, a < H.size → ¬ vA E a → H1[a]? = H[a]?) : vEv E U H1 :=
  ⟨h.1.kept hq, h.2.1, h.2.2.1.kept hq, h.2.2.2.1.imp (fun z => z.kept hq) (fun z => z.kept hq), h.2.2.2.2.1.kept hq, h.2.2.2.2.2.1.kept hq, h.2.2.2.2.2.2⟩
theorem vEv.warm {E : vEnv} {s U : State} {H : Heap} (hW : s.WarmedH U.vm) (h : vEv E s H) : vEv E U H :=
  ⟨vk_S.moved hW.alike h.1, fun i hi => vk_R.warm hW (h.2.1 i hi), va_Z.moved hW.alike h.2.2.1, h.2.2.2.1.imp (va_Z.moved hW.alike) (va_Z.moved hW.alike), vx_Zq.moved hW.alike h.2.2.2.2.1, vx_Zq.moved hW.alike h.2.2.2.2.2.1, va_Nc.moved hW.alike h.2.2.2.2.2.2.1, va_Nc.moved hW.alike h.2.2.2.2.2.2.2.1, va_Nc.moved hW.alike h.2.2.2.2.2.2.2.2⟩
/-- array classes over others -/
def vOver : List FieldType := [.object "NobodyBeenAft$Watch", .object "NobodyBeenAft$Page", .array .int, .array .long, .array .boolean]
def vOv (U : State) : Prop := ∀ t ∈ vOver, (Cond.arrayOver t).before #[] U = true
theorem idx_alike {u U : State} {comp c : ClassId} (hvm : u.vm.Alike U.vm) (hi : (u.vm.classes.findIdx? fun (x : Class) => match x.kind with | .array component _ => component == comp | _ => false) = some c) : (U.vm.classes.findIdx? fun (x : Class) => match x.kind with | .array component _ => component == comp | _ => false) = some c := by
  have e : ∀ vm : Vm, (vm.bare.classes.findIdx? fun (x : Class) => match x.kind with | .array component _ => component == comp | _ => false) = (vm.classes.findIdx? fun (x : Class) => match x.kind with | .array component _ => component == comp | _ => false) := by
    intro vm
    simp only [Vm.bare, Array.findIdx?_map]
    rfl
  have e2 : u.vm.bare = U.vm.bare := by first | exact hvm.bare_eq | exact hvm.bare_eq.symm
  rw [← e U.vm, ← e2, e u.vm]
  exact hi
theorem over_arr {t : FieldType} {u U : State} (hvm : u.vm.Alike U.vm) (h : (Cond.arrayOver (.array t)).before #[] u = true) : (Cond.arrayOver (.array t)).before #[] U = true := by
  have h : (Cond.arrayOver (.array t)).holds #[] u none u [] = true := h
  simp only [Cond.holds, Cond.value, beq_iff_eq] at h
  cases hc : u.vm.findClass (FieldType.array t).toString with
  | none => simp [hc] at h
  | some comp =>
    simp only [hc, Option.bind_some, Option.bind_eq_some_iff, Option.map_eq_some_iff] at h
    obtain ⟨c, hi, k, hk, hb⟩ := h
    have hi2 := idx_alike hvm hi
    obtain ⟨k', hk', he⟩ := hvm.2.2 _ _ hk
    have hkk : k'.kind = k.kind := by rw [he]
    have f1 : U.vm.findClass (FieldType.array t).toString = some comp := by rw [hvm.findClass]; exact hc
    show (Cond.arrayOver (.array t)).holds #[] U none U [] = true
    simp only [Cond.holds, Cond.value, beq_iff_eq, f1, Option.bind_some]
    rw [Option.bind_eq_some_iff]
    refine ⟨c, hi2, ?_⟩
    rw [hk', Option.map_some, hkk, hvm.findClass]
    rw [← hb]
theorem over_alike {t : FieldType} (ht : t ∈ vOver) {u U : State} (hvm : u.vm.Alike U.vm) (h : (Cond.arrayOver t).before #[] u = true) : (Cond.arrayOver t).before #[] U = true := by
  simp only [vOver, List.mem_cons, List.not_mem_nil, or_false] at ht
  rcases ht with rfl | rfl | rfl | rfl | rfl
  · exact va_AO.moved hvm h
  · exact va_AO.moved hvm h
  · exact over_arr hvm h
  · exact over_arr hvm h
  · exact over_arr hvm h
theorem vOv.moved {u U : State} (hvm : u.vm.Alike U.vm) (h : vOv u) : vOv U := fun t ht => over_alike ht hvm (h t ht)
