-- ===== PART A: goes FIRST, ahead of the names: the tables' words, and 'selects' of the private methods out of them =====
/-- a private method of a class that the tables say can be made, by its rows of tables_1 -/
def lw_okq (q : MethodName × Nat) : Prop := (q.1.cls ≠ "java/lang/invoke/MethodHandle" ∧ q.1.cls ≠ "java/lang/invoke/VarHandle") ∧ Cond.instantiable q.1.cls q.2 ∈ tables_1 ∧ Cond.privateMethod q.1 ∈ tables_1 ∧ Cond.instanceMethod q.1 ∈ tables_1
set_option maxRecDepth 100000
theorem lw_t1 {w : Cond} (h : w ∈ tables_1_1) : w ∈ tables_1 := List.mem_append_left _ h
theorem lw_t2 {w : Cond} (h : w ∈ tables_1_2) : w ∈ tables_1 := List.mem_append_right _ (List.mem_append_left _ h)
theorem lw_t3 {w : Cond} (h : w ∈ tables_1_3) : w ∈ tables_1 := List.mem_append_right _ (List.mem_append_right _ (List.mem_append_left _ h))
theorem lw_t4 {w : Cond} (h : w ∈ tables_1_4) : w ∈ tables_1 := List.mem_append_right _ (List.mem_append_right _ (List.mem_append_right _ (List.mem_append_left _ h)))
theorem lw_t5 {w : Cond} (h : w ∈ tables_1_5) : w ∈ tables_1 := List.mem_append_right _ (List.mem_append_right _ (List.mem_append_right _ (List.mem_append_right _ (List.mem_append_left _ h))))
theorem lw_t6 {w : Cond} (h : w ∈ tables_1_6) : w ∈ tables_1 := List.mem_append_right _ (List.mem_append_right _ (List.mem_append_right _ (List.mem_append_right _ (List.mem_append_right _ (List.mem_append_left _ h)))))
theorem lw_t7 {w : Cond} (h : w ∈ tables_1_7) : w ∈ tables_1 := List.mem_append_right _ (List.mem_append_right _ (List.mem_append_right _ (List.mem_append_right _ (List.mem_append_right _ (List.mem_append_right _ (List.mem_append_left _ h))))))
theorem lw_t8 {w : Cond} (h : w ∈ tables_1_8) : w ∈ tables_1 := List.mem_append_right _ (List.mem_append_right _ (List.mem_append_right _ (List.mem_append_right _ (List.mem_append_right _ (List.mem_append_right _ (List.mem_append_right _ h))))))
theorem lw_p0 : lw_okq (⟨"NobodyBeenAft", "words", "(I)LNobodyBeenAft$Words;"⟩, 28) := ⟨⟨by decide +kernel, by decide +kernel⟩, lw_t1 (List.mem_of_getElem? (i := 31) rfl), lw_t1 (List.mem_of_getElem? (i := 233) rfl), lw_t1 (List.mem_of_getElem? (i := 234) rfl)⟩
theorem lw_p1 : lw_okq (⟨"java/lang/Throwable", "fillInStackTrace", "(I)Ljava/lang/Throwable;"⟩, 6) := ⟨⟨by decide +kernel, by decide +kernel⟩, lw_t2 (List.mem_of_getElem? (i := 102) rfl), lw_t2 (List.mem_of_getElem? (i := 100) rfl), lw_t2 (List.mem_of_getElem? (i := 101) rfl)⟩
theorem lw_p2 : lw_okq (⟨"NobodyBeenAft$Rule", "held", "(I)I"⟩, 7) := ⟨⟨by decide +kernel, by decide +kernel⟩, lw_t2 (List.mem_of_getElem? (i := 237) rfl), lw_t3 (List.mem_of_getElem? (i := 21) rfl), lw_t3 (List.mem_of_getElem? (i := 22) rfl)⟩
theorem lw_p3 : lw_okq (⟨"NobodyBeenAft$Rule", "sum", "(I)I"⟩, 7) := ⟨⟨by decide +kernel, by decide +kernel⟩, lw_t2 (List.mem_of_getElem? (i := 237) rfl), lw_t3 (List.mem_of_getElem? (i := 25) rfl), lw_t3 (List.mem_of_getElem? (i := 26) rfl)⟩
theorem lw_p4 : lw_okq (⟨"NobodyBeenAft$Rule", "product", "(I)I"⟩, 7) := ⟨⟨by decide +kernel, by decide +kernel⟩, lw_t2 (List.mem_of_getElem? (i := 237) rfl), lw_t3 (List.mem_of_getElem? (i := 29) rfl), lw_t3 (List.mem_of_getElem? (i := 30) rfl)⟩
theorem lw_p5 : lw_okq (⟨"NobodyBeenAft$Rule", "thing", "(I)I"⟩, 7) := ⟨⟨by decide +kernel, by decide +kernel⟩, lw_t2 (List.mem_of_getElem? (i := 237) rfl), lw_t3 (List.mem_of_getElem? (i := 33) rfl), lw_t3 (List.mem_of_getElem? (i := 34) rfl)⟩
theorem lw_p6 : lw_okq (⟨"NobodyBeenAft$Rule", "value", "(I)I"⟩, 7) := ⟨⟨by decide +kernel, by decide +kernel⟩, lw_t2 (List.mem_of_getElem? (i := 237) rfl), lw_t3 (List.mem_of_getElem? (i := 56) rfl), lw_t3 (List.mem_of_getElem? (i := 57) rfl)⟩
theorem lw_p7 : lw_okq (⟨"NobodyBeenAft", "delayAt", "(I)I"⟩, 28) := ⟨⟨by decide +kernel, by decide +kernel⟩, lw_t1 (List.mem_of_getElem? (i := 31) rfl), lw_t3 (List.mem_of_getElem? (i := 121) rfl), lw_t3 (List.mem_of_getElem? (i := 122) rfl)⟩
theorem lw_p8 : lw_okq (⟨"NobodyBeenAft", "remember", "(LNobodyBeenAft$Watch;)V"⟩, 28) := ⟨⟨by decide +kernel, by decide +kernel⟩, lw_t1 (List.mem_of_getElem? (i := 31) rfl), lw_t3 (List.mem_of_getElem? (i := 138) rfl), lw_t3 (List.mem_of_getElem? (i := 139) rfl)⟩
theorem lw_p9 : lw_okq (⟨"NobodyBeenAft", "orders", "(LNobodyBeenAft$Watch;I)I"⟩, 28) := ⟨⟨by decide +kernel, by decide +kernel⟩, lw_t1 (List.mem_of_getElem? (i := 31) rfl), lw_t3 (List.mem_of_getElem? (i := 147) rfl), lw_t3 (List.mem_of_getElem? (i := 148) rfl)⟩
theorem lw_p10 : lw_okq (⟨"NobodyBeenAft", "turned", "(I)I"⟩, 28) := ⟨⟨by decide +kernel, by decide +kernel⟩, lw_t1 (List.mem_of_getElem? (i := 31) rfl), lw_t3 (List.mem_of_getElem? (i := 151) rfl), lw_t3 (List.mem_of_getElem? (i := 152) rfl)⟩
theorem lw_p11 : lw_okq (⟨"NobodyBeenAft", "refusesPass", "(III)I"⟩, 28) := ⟨⟨by decide +kernel, by decide +kernel⟩, lw_t1 (List.mem_of_getElem? (i := 31) rfl), lw_t3 (List.mem_of_getElem? (i := 164) rfl), lw_t3 (List.mem_of_getElem? (i := 165) rfl)⟩
theorem lw_p12 : lw_okq (⟨"NobodyBeenAft", "isMess", "(I)Z"⟩, 28) := ⟨⟨by decide +kernel, by decide +kernel⟩, lw_t1 (List.mem_of_getElem? (i := 31) rfl), lw_t3 (List.mem_of_getElem? (i := 168) rfl), lw_t3 (List.mem_of_getElem? (i := 169) rfl)⟩
theorem lw_p13 : lw_okq (⟨"NobodyBeenAft", "passes", "(III)I"⟩, 28) := ⟨⟨by decide +kernel, by decide +kernel⟩, lw_t1 (List.mem_of_getElem? (i := 31) rfl), lw_t3 (List.mem_of_getElem? (i := 173) rfl), lw_t3 (List.mem_of_getElem? (i := 174) rfl)⟩
theorem lw_p14 : lw_okq (⟨"NobodyBeenAft", "goSteps", "(LNobodyBeenAft$Watch;I)V"⟩, 28) := ⟨⟨by decide +kernel, by decide +kernel⟩, lw_t1 (List.mem_of_getElem? (i := 31) rfl), lw_t3 (List.mem_of_getElem? (i := 186) rfl), lw_t3 (List.mem_of_getElem? (i := 187) rfl)⟩
theorem lw_p15 : lw_okq (⟨"NobodyBeenAft", "goStep", "(LNobodyBeenAft$Watch;)V"⟩, 28) := ⟨⟨by decide +kernel, by decide +kernel⟩, lw_t1 (List.mem_of_getElem? (i := 31) rfl), lw_t3 (List.mem_of_getElem? (i := 190) rfl), lw_t3 (List.mem_of_getElem? (i := 191) rfl)⟩
def lw_privs_1 : List (MethodName × Nat) := [(⟨"NobodyBeenAft", "words", "(I)LNobodyBeenAft$Words;"⟩, 28), (⟨"java/lang/Throwable", "fillInStackTrace", "(I)Ljava/lang/Throwable;"⟩, 6), (⟨"NobodyBeenAft$Rule", "held", "(I)I"⟩, 7), (⟨"NobodyBeenAft$Rule", "sum", "(I)I"⟩, 7), (⟨"NobodyBeenAft$Rule", "product", "(I)I"⟩, 7), (⟨"NobodyBeenAft$Rule", "thing", "(I)I"⟩, 7), (⟨"NobodyBeenAft$Rule", "value", "(I)I"⟩, 7), (⟨"NobodyBeenAft", "delayAt", "(I)I"⟩, 28), (⟨"NobodyBeenAft", "remember", "(LNobodyBeenAft$Watch;)V"⟩, 28), (⟨"NobodyBeenAft", "orders", "(LNobodyBeenAft$Watch;I)I"⟩, 28), (⟨"NobodyBeenAft", "turned", "(I)I"⟩, 28), (⟨"NobodyBeenAft", "refusesPass", "(III)I"⟩, 28), (⟨"NobodyBeenAft", "isMess", "(I)Z"⟩, 28), (⟨"NobodyBeenAft", "passes", "(III)I"⟩, 28), (⟨"NobodyBeenAft", "goSteps", "(LNobodyBeenAft$Watch;I)V"⟩, 28), (⟨"NobodyBeenAft", "goStep", "(LNobodyBeenAft$Watch;)V"⟩, 28)]
theorem lw_r1 : ∀ q ∈ lw_privs_1, lw_okq q := List.forall_mem_cons.mpr ⟨lw_p0, List.forall_mem_cons.mpr ⟨lw_p1, List.forall_mem_cons.mpr ⟨lw_p2, List.forall_mem_cons.mpr ⟨lw_p3, List.forall_mem_cons.mpr ⟨lw_p4, List.forall_mem_cons.mpr ⟨lw_p5, List.forall_mem_cons.mpr ⟨lw_p6, List.forall_mem_cons.mpr ⟨lw_p7, List.forall_mem_cons.mpr ⟨lw_p8, List.forall_mem_cons.mpr ⟨lw_p9, List.forall_mem_cons.mpr ⟨lw_p10, List.forall_mem_cons.mpr ⟨lw_p11, List.forall_mem_cons.mpr ⟨lw_p12, List.forall_mem_cons.mpr ⟨lw_p13, List.forall_mem_cons.mpr ⟨lw_p14, List.forall_mem_cons.mpr ⟨lw_p15, fun _ h => absurd h List.not_mem_nil⟩⟩⟩⟩⟩⟩⟩⟩⟩⟩⟩⟩⟩⟩⟩⟩
theorem lw_p16 : lw_okq (⟨"NobodyBeenAft", "hitsAt", "(II)I"⟩, 28) := ⟨⟨by decide +kernel, by decide +kernel⟩, lw_t1 (List.mem_of_getElem? (i := 31) rfl), lw_t3 (List.mem_of_getElem? (i := 201) rfl), lw_t3 (List.mem_of_getElem? (i := 202) rfl)⟩
theorem lw_p17 : lw_okq (⟨"NobodyBeenAft", "tell", "(J)V"⟩, 28) := ⟨⟨by decide +kernel, by decide +kernel⟩, lw_t1 (List.mem_of_getElem? (i := 31) rfl), lw_t3 (List.mem_of_getElem? (i := 205) rfl), lw_t3 (List.mem_of_getElem? (i := 206) rfl)⟩
theorem lw_p18 : lw_okq (⟨"NobodyBeenAft$Log", "act", "()V"⟩, 7) := ⟨⟨by decide +kernel, by decide +kernel⟩, lw_t3 (List.mem_of_getElem? (i := 213) rfl), lw_t4 (List.mem_of_getElem? (i := 1) rfl), lw_t4 (List.mem_of_getElem? (i := 2) rfl)⟩
theorem lw_p19 : lw_okq (⟨"NobodyBeenAft", "act", "(CI)Z"⟩, 28) := ⟨⟨by decide +kernel, by decide +kernel⟩, lw_t1 (List.mem_of_getElem? (i := 31) rfl), lw_t4 (List.mem_of_getElem? (i := 21) rfl), lw_t4 (List.mem_of_getElem? (i := 22) rfl)⟩
theorem lw_p20 : lw_okq (⟨"NobodyBeenAft", "rocksIn", "(II)I"⟩, 28) := ⟨⟨by decide +kernel, by decide +kernel⟩, lw_t1 (List.mem_of_getElem? (i := 31) rfl), lw_t4 (List.mem_of_getElem? (i := 214) rfl), lw_t4 (List.mem_of_getElem? (i := 215) rfl)⟩
theorem lw_p21 : lw_okq (⟨"NobodyBeenAft", "tellPart", "(JJ)V"⟩, 28) := ⟨⟨by decide +kernel, by decide +kernel⟩, lw_t1 (List.mem_of_getElem? (i := 31) rfl), lw_t5 (List.mem_of_getElem? (i := 12) rfl), lw_t5 (List.mem_of_getElem? (i := 13) rfl)⟩
theorem lw_p22 : lw_okq (⟨"NobodyBeenAft", "eatsIn", "(II)I"⟩, 28) := ⟨⟨by decide +kernel, by decide +kernel⟩, lw_t1 (List.mem_of_getElem? (i := 31) rfl), lw_t5 (List.mem_of_getElem? (i := 29) rfl), lw_t5 (List.mem_of_getElem? (i := 30) rfl)⟩
theorem lw_p23 : lw_okq (⟨"NobodyBeenAft", "foodIn", "(II)I"⟩, 28) := ⟨⟨by decide +kernel, by decide +kernel⟩, lw_t1 (List.mem_of_getElem? (i := 31) rfl), lw_t5 (List.mem_of_getElem? (i := 33) rfl), lw_t5 (List.mem_of_getElem? (i := 34) rfl)⟩
theorem lw_p24 : lw_okq (⟨"NobodyBeenAft", "leastFrom", "(III)I"⟩, 28) := ⟨⟨by decide +kernel, by decide +kernel⟩, lw_t1 (List.mem_of_getElem? (i := 31) rfl), lw_t5 (List.mem_of_getElem? (i := 44) rfl), lw_t5 (List.mem_of_getElem? (i := 45) rfl)⟩
theorem lw_p25 : lw_okq (⟨"NobodyBeenAft", "spare", "(III)I"⟩, 28) := ⟨⟨by decide +kernel, by decide +kernel⟩, lw_t1 (List.mem_of_getElem? (i := 31) rfl), lw_t5 (List.mem_of_getElem? (i := 48) rfl), lw_t5 (List.mem_of_getElem? (i := 49) rfl)⟩
theorem lw_p26 : lw_okq (⟨"NobodyBeenAft", "findRows", "()V"⟩, 28) := ⟨⟨by decide +kernel, by decide +kernel⟩, lw_t1 (List.mem_of_getElem? (i := 31) rfl), lw_t5 (List.mem_of_getElem? (i := 69) rfl), lw_t5 (List.mem_of_getElem? (i := 70) rfl)⟩
theorem lw_p27 : lw_okq (⟨"NobodyBeenAft", "lastSeen", "()I"⟩, 28) := ⟨⟨by decide +kernel, by decide +kernel⟩, lw_t1 (List.mem_of_getElem? (i := 31) rfl), lw_t5 (List.mem_of_getElem? (i := 73) rfl), lw_t5 (List.mem_of_getElem? (i := 74) rfl)⟩
theorem lw_p28 : lw_okq (⟨"NobodyBeenAft", "canSee", "(II)Z"⟩, 28) := ⟨⟨by decide +kernel, by decide +kernel⟩, lw_t1 (List.mem_of_getElem? (i := 31) rfl), lw_t5 (List.mem_of_getElem? (i := 82) rfl), lw_t5 (List.mem_of_getElem? (i := 83) rfl)⟩
theorem lw_p29 : lw_okq (⟨"NobodyBeenAft", "lanesIn", "(I)I"⟩, 28) := ⟨⟨by decide +kernel, by decide +kernel⟩, lw_t1 (List.mem_of_getElem? (i := 31) rfl), lw_t5 (List.mem_of_getElem? (i := 97) rfl), lw_t5 (List.mem_of_getElem? (i := 98) rfl)⟩
theorem lw_p30 : lw_okq (⟨"NobodyBeenAft", "walked", "(I)I"⟩, 28) := ⟨⟨by decide +kernel, by decide +kernel⟩, lw_t1 (List.mem_of_getElem? (i := 31) rfl), lw_t5 (List.mem_of_getElem? (i := 108) rfl), lw_t5 (List.mem_of_getElem? (i := 109) rfl)⟩
theorem lw_p31 : lw_okq (⟨"NobodyBeenAftModel", "begins", "(I)I"⟩, 53) := ⟨⟨by decide +kernel, by decide +kernel⟩, lw_t5 (List.mem_of_getElem? (i := 227) rfl), lw_t6 (List.mem_of_getElem? (i := 172) rfl), lw_t6 (List.mem_of_getElem? (i := 173) rfl)⟩
def lw_privs_2 : List (MethodName × Nat) := [(⟨"NobodyBeenAft", "hitsAt", "(II)I"⟩, 28), (⟨"NobodyBeenAft", "tell", "(J)V"⟩, 28), (⟨"NobodyBeenAft$Log", "act", "()V"⟩, 7), (⟨"NobodyBeenAft", "act", "(CI)Z"⟩, 28), (⟨"NobodyBeenAft", "rocksIn", "(II)I"⟩, 28), (⟨"NobodyBeenAft", "tellPart", "(JJ)V"⟩, 28), (⟨"NobodyBeenAft", "eatsIn", "(II)I"⟩, 28), (⟨"NobodyBeenAft", "foodIn", "(II)I"⟩, 28), (⟨"NobodyBeenAft", "leastFrom", "(III)I"⟩, 28), (⟨"NobodyBeenAft", "spare", "(III)I"⟩, 28), (⟨"NobodyBeenAft", "findRows", "()V"⟩, 28), (⟨"NobodyBeenAft", "lastSeen", "()I"⟩, 28), (⟨"NobodyBeenAft", "canSee", "(II)Z"⟩, 28), (⟨"NobodyBeenAft", "lanesIn", "(I)I"⟩, 28), (⟨"NobodyBeenAft", "walked", "(I)I"⟩, 28), (⟨"NobodyBeenAftModel", "begins", "(I)I"⟩, 53)]
theorem lw_r2 : ∀ q ∈ lw_privs_2, lw_okq q := List.forall_mem_cons.mpr ⟨lw_p16, List.forall_mem_cons.mpr ⟨lw_p17, List.forall_mem_cons.mpr ⟨lw_p18, List.forall_mem_cons.mpr ⟨lw_p19, List.forall_mem_cons.mpr ⟨lw_p20, List.forall_mem_cons.mpr ⟨lw_p21, List.forall_mem_cons.mpr ⟨lw_p22, List.forall_mem_cons.mpr ⟨lw_p23, List.forall_mem_cons.mpr ⟨lw_p24, List.forall_mem_cons.mpr ⟨lw_p25, List.forall_mem_cons.mpr ⟨lw_p26, List.forall_mem_cons.mpr ⟨lw_p27, List.forall_mem_cons.mpr ⟨lw_p28, List.forall_mem_cons.mpr ⟨lw_p29, List.forall_mem_cons.mpr ⟨lw_p30, List.forall_mem_cons.mpr ⟨lw_p31, fun _ h => absurd h List.not_mem_nil⟩⟩⟩⟩⟩⟩⟩⟩⟩⟩⟩⟩⟩⟩⟩⟩
theorem lw_p32 : lw_okq (⟨"NobodyBeenAftModel", "numberIn", "(III)I"⟩, 53) := ⟨⟨by decide +kernel, by decide +kernel⟩, lw_t5 (List.mem_of_getElem? (i := 227) rfl), lw_t6 (List.mem_of_getElem? (i := 177) rfl), lw_t6 (List.mem_of_getElem? (i := 178) rfl)⟩
theorem lw_p33 : lw_okq (⟨"NobodyBeenAftModel", "number", "(I)I"⟩, 53) := ⟨⟨by decide +kernel, by decide +kernel⟩, lw_t5 (List.mem_of_getElem? (i := 227) rfl), lw_t6 (List.mem_of_getElem? (i := 181) rfl), lw_t6 (List.mem_of_getElem? (i := 182) rfl)⟩
theorem lw_p34 : lw_okq (⟨"NobodyBeenAftModel", "isDigit", "()Z"⟩, 53) := ⟨⟨by decide +kernel, by decide +kernel⟩, lw_t5 (List.mem_of_getElem? (i := 227) rfl), lw_t6 (List.mem_of_getElem? (i := 185) rfl), lw_t6 (List.mem_of_getElem? (i := 186) rfl)⟩
theorem lw_p35 : lw_okq (⟨"NobodyBeenAftModel", "takes", "(I)Z"⟩, 53) := ⟨⟨by decide +kernel, by decide +kernel⟩, lw_t5 (List.mem_of_getElem? (i := 227) rfl), lw_t6 (List.mem_of_getElem? (i := 191) rfl), lw_t6 (List.mem_of_getElem? (i := 192) rfl)⟩
theorem lw_p36 : lw_okq (⟨"NobodyBeenAftModel", "faultOf", "(IIZ)I"⟩, 53) := ⟨⟨by decide +kernel, by decide +kernel⟩, lw_t5 (List.mem_of_getElem? (i := 227) rfl), lw_t6 (List.mem_of_getElem? (i := 198) rfl), lw_t6 (List.mem_of_getElem? (i := 199) rfl)⟩
theorem lw_p37 : lw_okq (⟨"NobodyBeenAftModel", "readsRock", "()Z"⟩, 53) := ⟨⟨by decide +kernel, by decide +kernel⟩, lw_t5 (List.mem_of_getElem? (i := 227) rfl), lw_t6 (List.mem_of_getElem? (i := 206) rfl), lw_t6 (List.mem_of_getElem? (i := 207) rfl)⟩
theorem lw_p38 : lw_okq (⟨"NobodyBeenAftModel", "takesOf", "(Ljava/lang/String;)I"⟩, 53) := ⟨⟨by decide +kernel, by decide +kernel⟩, lw_t5 (List.mem_of_getElem? (i := 227) rfl), lw_t6 (List.mem_of_getElem? (i := 211) rfl), lw_t6 (List.mem_of_getElem? (i := 212) rfl)⟩
theorem lw_p39 : lw_okq (⟨"NobodyBeenAftModel", "among", "(Ljava/lang/String;)I"⟩, 53) := ⟨⟨by decide +kernel, by decide +kernel⟩, lw_t5 (List.mem_of_getElem? (i := 227) rfl), lw_t6 (List.mem_of_getElem? (i := 215) rfl), lw_t6 (List.mem_of_getElem? (i := 216) rfl)⟩
theorem lw_p40 : lw_okq (⟨"NobodyBeenAftModel", "readsMess", "()Z"⟩, 53) := ⟨⟨by decide +kernel, by decide +kernel⟩, lw_t5 (List.mem_of_getElem? (i := 227) rfl), lw_t7 (List.mem_of_getElem? (i := 31) rfl), lw_t7 (List.mem_of_getElem? (i := 32) rfl)⟩
theorem lw_p41 : lw_okq (⟨"NobodyBeenAftModel", "readsRank", "(I)Z"⟩, 53) := ⟨⟨by decide +kernel, by decide +kernel⟩, lw_t5 (List.mem_of_getElem? (i := 227) rfl), lw_t7 (List.mem_of_getElem? (i := 39) rfl), lw_t7 (List.mem_of_getElem? (i := 40) rfl)⟩
theorem lw_p42 : lw_okq (⟨"NobodyBeenAftModel", "readsThing", "()Z"⟩, 53) := ⟨⟨by decide +kernel, by decide +kernel⟩, lw_t5 (List.mem_of_getElem? (i := 227) rfl), lw_t7 (List.mem_of_getElem? (i := 43) rfl), lw_t7 (List.mem_of_getElem? (i := 44) rfl)⟩
theorem lw_p43 : lw_okq (⟨"NobodyBeenAftModel", "codes", "(I)V"⟩, 53) := ⟨⟨by decide +kernel, by decide +kernel⟩, lw_t5 (List.mem_of_getElem? (i := 227) rfl), lw_t7 (List.mem_of_getElem? (i := 47) rfl), lw_t7 (List.mem_of_getElem? (i := 48) rfl)⟩
theorem lw_p44 : lw_okq (⟨"NobodyBeenAftModel", "refuse", "()I"⟩, 53) := ⟨⟨by decide +kernel, by decide +kernel⟩, lw_t5 (List.mem_of_getElem? (i := 227) rfl), lw_t7 (List.mem_of_getElem? (i := 59) rfl), lw_t7 (List.mem_of_getElem? (i := 60) rfl)⟩
theorem lw_p45 : lw_okq (⟨"NobodyBeenAftModel", "isMess", "(I)Z"⟩, 53) := ⟨⟨by decide +kernel, by decide +kernel⟩, lw_t5 (List.mem_of_getElem? (i := 227) rfl), lw_t7 (List.mem_of_getElem? (i := 71) rfl), lw_t7 (List.mem_of_getElem? (i := 72) rfl)⟩
theorem lw_p46 : lw_okq (⟨"NobodyBeenAftModel", "isAhead", "(II)Z"⟩, 53) := ⟨⟨by decide +kernel, by decide +kernel⟩, lw_t5 (List.mem_of_getElem? (i := 227) rfl), lw_t7 (List.mem_of_getElem? (i := 80) rfl), lw_t7 (List.mem_of_getElem? (i := 81) rfl)⟩
theorem lw_p47 : lw_okq (⟨"NobodyBeenAftModel", "delayAt", "(I)I"⟩, 53) := ⟨⟨by decide +kernel, by decide +kernel⟩, lw_t5 (List.mem_of_getElem? (i := 227) rfl), lw_t7 (List.mem_of_getElem? (i := 98) rfl), lw_t7 (List.mem_of_getElem? (i := 99) rfl)⟩
def lw_privs_3 : List (MethodName × Nat) := [(⟨"NobodyBeenAftModel", "numberIn", "(III)I"⟩, 53), (⟨"NobodyBeenAftModel", "number", "(I)I"⟩, 53), (⟨"NobodyBeenAftModel", "isDigit", "()Z"⟩, 53), (⟨"NobodyBeenAftModel", "takes", "(I)Z"⟩, 53), (⟨"NobodyBeenAftModel", "faultOf", "(IIZ)I"⟩, 53), (⟨"NobodyBeenAftModel", "readsRock", "()Z"⟩, 53), (⟨"NobodyBeenAftModel", "takesOf", "(Ljava/lang/String;)I"⟩, 53), (⟨"NobodyBeenAftModel", "among", "(Ljava/lang/String;)I"⟩, 53), (⟨"NobodyBeenAftModel", "readsMess", "()Z"⟩, 53), (⟨"NobodyBeenAftModel", "readsRank", "(I)Z"⟩, 53), (⟨"NobodyBeenAftModel", "readsThing", "()Z"⟩, 53), (⟨"NobodyBeenAftModel", "codes", "(I)V"⟩, 53), (⟨"NobodyBeenAftModel", "refuse", "()I"⟩, 53), (⟨"NobodyBeenAftModel", "isMess", "(I)Z"⟩, 53), (⟨"NobodyBeenAftModel", "isAhead", "(II)Z"⟩, 53), (⟨"NobodyBeenAftModel", "delayAt", "(I)I"⟩, 53)]
theorem lw_r3 : ∀ q ∈ lw_privs_3, lw_okq q := List.forall_mem_cons.mpr ⟨lw_p32, List.forall_mem_cons.mpr ⟨lw_p33, List.forall_mem_cons.mpr ⟨lw_p34, List.forall_mem_cons.mpr ⟨lw_p35, List.forall_mem_cons.mpr ⟨lw_p36, List.forall_mem_cons.mpr ⟨lw_p37, List.forall_mem_cons.mpr ⟨lw_p38, List.forall_mem_cons.mpr ⟨lw_p39, List.forall_mem_cons.mpr ⟨lw_p40, List.forall_mem_cons.mpr ⟨lw_p41, List.forall_mem_cons.mpr ⟨lw_p42, List.forall_mem_cons.mpr ⟨lw_p43, List.forall_mem_cons.mpr ⟨lw_p44, List.forall_mem_cons.mpr ⟨lw_p45, List.forall_mem_cons.mpr ⟨lw_p46, List.forall_mem_cons.mpr ⟨lw_p47, fun _ h => absurd h List.not_mem_nil⟩⟩⟩⟩⟩⟩⟩⟩⟩⟩⟩⟩⟩⟩⟩⟩
theorem lw_p48 : lw_okq (⟨"NobodyBeenAftModel", "ruled", "()I"⟩, 53) := ⟨⟨by decide +kernel, by decide +kernel⟩, lw_t5 (List.mem_of_getElem? (i := 227) rfl), lw_t7 (List.mem_of_getElem? (i := 102) rfl), lw_t7 (List.mem_of_getElem? (i := 103) rfl)⟩
theorem lw_p49 : lw_okq (⟨"NobodyBeenAftModel", "putsBy", "()V"⟩, 53) := ⟨⟨by decide +kernel, by decide +kernel⟩, lw_t5 (List.mem_of_getElem? (i := 227) rfl), lw_t7 (List.mem_of_getElem? (i := 113) rfl), lw_t7 (List.mem_of_getElem? (i := 114) rfl)⟩
theorem lw_p50 : lw_okq (⟨"NobodyBeenAftModel", "gives", "([II)I"⟩, 53) := ⟨⟨by decide +kernel, by decide +kernel⟩, lw_t5 (List.mem_of_getElem? (i := 227) rfl), lw_t7 (List.mem_of_getElem? (i := 117) rfl), lw_t7 (List.mem_of_getElem? (i := 118) rfl)⟩
theorem lw_p51 : lw_okq (⟨"NobodyBeenAftModel", "turned", "(I)I"⟩, 53) := ⟨⟨by decide +kernel, by decide +kernel⟩, lw_t5 (List.mem_of_getElem? (i := 227) rfl), lw_t7 (List.mem_of_getElem? (i := 122) rfl), lw_t7 (List.mem_of_getElem? (i := 123) rfl)⟩
theorem lw_p52 : lw_okq (⟨"NobodyBeenAftModel", "counts", "(I)I"⟩, 53) := ⟨⟨by decide +kernel, by decide +kernel⟩, lw_t5 (List.mem_of_getElem? (i := 227) rfl), lw_t7 (List.mem_of_getElem? (i := 126) rfl), lw_t7 (List.mem_of_getElem? (i := 127) rfl)⟩
theorem lw_p53 : lw_okq (⟨"NobodyBeenAftModel", "adds", "(I)I"⟩, 53) := ⟨⟨by decide +kernel, by decide +kernel⟩, lw_t5 (List.mem_of_getElem? (i := 227) rfl), lw_t7 (List.mem_of_getElem? (i := 130) rfl), lw_t7 (List.mem_of_getElem? (i := 131) rfl)⟩
theorem lw_p54 : lw_okq (⟨"NobodyBeenAftModel", "passes", "(III)I"⟩, 53) := ⟨⟨by decide +kernel, by decide +kernel⟩, lw_t5 (List.mem_of_getElem? (i := 227) rfl), lw_t7 (List.mem_of_getElem? (i := 138) rfl), lw_t7 (List.mem_of_getElem? (i := 139) rfl)⟩
theorem lw_p55 : lw_okq (⟨"NobodyBeenAftModel", "cooks", "(II)I"⟩, 53) := ⟨⟨by decide +kernel, by decide +kernel⟩, lw_t5 (List.mem_of_getElem? (i := 227) rfl), lw_t7 (List.mem_of_getElem? (i := 147) rfl), lw_t7 (List.mem_of_getElem? (i := 148) rfl)⟩
theorem lw_p56 : lw_okq (⟨"NobodyBeenAftModel", "startsCounting", "()V"⟩, 53) := ⟨⟨by decide +kernel, by decide +kernel⟩, lw_t5 (List.mem_of_getElem? (i := 227) rfl), lw_t7 (List.mem_of_getElem? (i := 156) rfl), lw_t7 (List.mem_of_getElem? (i := 157) rfl)⟩
theorem lw_p57 : lw_okq (⟨"NobodyBeenAftModel", "stepGoes", "([I)V"⟩, 53) := ⟨⟨by decide +kernel, by decide +kernel⟩, lw_t5 (List.mem_of_getElem? (i := 227) rfl), lw_t7 (List.mem_of_getElem? (i := 160) rfl), lw_t7 (List.mem_of_getElem? (i := 161) rfl)⟩
theorem lw_p58 : lw_okq (⟨"NobodyBeenAftModel", "hitsAt", "(II)I"⟩, 53) := ⟨⟨by decide +kernel, by decide +kernel⟩, lw_t5 (List.mem_of_getElem? (i := 227) rfl), lw_t7 (List.mem_of_getElem? (i := 170) rfl), lw_t7 (List.mem_of_getElem? (i := 171) rfl)⟩
theorem lw_p59 : lw_okq (⟨"NobodyBeenAftModel", "enters", "(J)V"⟩, 53) := ⟨⟨by decide +kernel, by decide +kernel⟩, lw_t5 (List.mem_of_getElem? (i := 227) rfl), lw_t7 (List.mem_of_getElem? (i := 174) rfl), lw_t7 (List.mem_of_getElem? (i := 175) rfl)⟩
theorem lw_p60 : lw_okq (⟨"NobodyBeenAftModel", "readsAct", "()Z"⟩, 53) := ⟨⟨by decide +kernel, by decide +kernel⟩, lw_t5 (List.mem_of_getElem? (i := 227) rfl), lw_t7 (List.mem_of_getElem? (i := 182) rfl), lw_t7 (List.mem_of_getElem? (i := 183) rfl)⟩
theorem lw_p61 : lw_okq (⟨"NobodyBeenAftModel", "does", "(I)Z"⟩, 53) := ⟨⟨by decide +kernel, by decide +kernel⟩, lw_t5 (List.mem_of_getElem? (i := 227) rfl), lw_t7 (List.mem_of_getElem? (i := 187) rfl), lw_t7 (List.mem_of_getElem? (i := 188) rfl)⟩
theorem lw_p62 : lw_okq (⟨"NobodyBeenAftModel", "puts", "()V"⟩, 53) := ⟨⟨by decide +kernel, by decide +kernel⟩, lw_t5 (List.mem_of_getElem? (i := 227) rfl), lw_t7 (List.mem_of_getElem? (i := 195) rfl), lw_t7 (List.mem_of_getElem? (i := 196) rfl)⟩
theorem lw_p63 : lw_okq (⟨"NobodyBeenAftModel", "movedByDue", "(II)I"⟩, 53) := ⟨⟨by decide +kernel, by decide +kernel⟩, lw_t5 (List.mem_of_getElem? (i := 227) rfl), lw_t7 (List.mem_of_getElem? (i := 207) rfl), lw_t7 (List.mem_of_getElem? (i := 208) rfl)⟩
def lw_privs_4 : List (MethodName × Nat) := [(⟨"NobodyBeenAftModel", "ruled", "()I"⟩, 53), (⟨"NobodyBeenAftModel", "putsBy", "()V"⟩, 53), (⟨"NobodyBeenAftModel", "gives", "([II)I"⟩, 53), (⟨"NobodyBeenAftModel", "turned", "(I)I"⟩, 53), (⟨"NobodyBeenAftModel", "counts", "(I)I"⟩, 53), (⟨"NobodyBeenAftModel", "adds", "(I)I"⟩, 53), (⟨"NobodyBeenAftModel", "passes", "(III)I"⟩, 53), (⟨"NobodyBeenAftModel", "cooks", "(II)I"⟩, 53), (⟨"NobodyBeenAftModel", "startsCounting", "()V"⟩, 53), (⟨"NobodyBeenAftModel", "stepGoes", "([I)V"⟩, 53), (⟨"NobodyBeenAftModel", "hitsAt", "(II)I"⟩, 53), (⟨"NobodyBeenAftModel", "enters", "(J)V"⟩, 53), (⟨"NobodyBeenAftModel", "readsAct", "()Z"⟩, 53), (⟨"NobodyBeenAftModel", "does", "(I)Z"⟩, 53), (⟨"NobodyBeenAftModel", "puts", "()V"⟩, 53), (⟨"NobodyBeenAftModel", "movedByDue", "(II)I"⟩, 53)]
theorem lw_r4 : ∀ q ∈ lw_privs_4, lw_okq q := List.forall_mem_cons.mpr ⟨lw_p48, List.forall_mem_cons.mpr ⟨lw_p49, List.forall_mem_cons.mpr ⟨lw_p50, List.forall_mem_cons.mpr ⟨lw_p51, List.forall_mem_cons.mpr ⟨lw_p52, List.forall_mem_cons.mpr ⟨lw_p53, List.forall_mem_cons.mpr ⟨lw_p54, List.forall_mem_cons.mpr ⟨lw_p55, List.forall_mem_cons.mpr ⟨lw_p56, List.forall_mem_cons.mpr ⟨lw_p57, List.forall_mem_cons.mpr ⟨lw_p58, List.forall_mem_cons.mpr ⟨lw_p59, List.forall_mem_cons.mpr ⟨lw_p60, List.forall_mem_cons.mpr ⟨lw_p61, List.forall_mem_cons.mpr ⟨lw_p62, List.forall_mem_cons.mpr ⟨lw_p63, fun _ h => absurd h List.not_mem_nil⟩⟩⟩⟩⟩⟩⟩⟩⟩⟩⟩⟩⟩⟩⟩⟩
theorem lw_p64 : lw_okq (⟨"NobodyBeenAftModel", "comesAt", "(II)Z"⟩, 53) := ⟨⟨by decide +kernel, by decide +kernel⟩, lw_t5 (List.mem_of_getElem? (i := 227) rfl), lw_t7 (List.mem_of_getElem? (i := 217) rfl), lw_t7 (List.mem_of_getElem? (i := 218) rfl)⟩
theorem lw_p65 : lw_okq (⟨"NobodyBeenAftModel", "mayGive", "(I)Z"⟩, 53) := ⟨⟨by decide +kernel, by decide +kernel⟩, lw_t5 (List.mem_of_getElem? (i := 227) rfl), lw_t7 (List.mem_of_getElem? (i := 221) rfl), lw_t7 (List.mem_of_getElem? (i := 222) rfl)⟩
theorem lw_p66 : lw_okq (⟨"NobodyBeenAftModel", "choosesAny", "(I)V"⟩, 53) := ⟨⟨by decide +kernel, by decide +kernel⟩, lw_t5 (List.mem_of_getElem? (i := 227) rfl), lw_t7 (List.mem_of_getElem? (i := 230) rfl), lw_t7 (List.mem_of_getElem? (i := 231) rfl)⟩
theorem lw_p67 : lw_okq (⟨"NobodyBeenAftModel", "fewestOrders", "(I)I"⟩, 53) := ⟨⟨by decide +kernel, by decide +kernel⟩, lw_t5 (List.mem_of_getElem? (i := 227) rfl), lw_t7 (List.mem_of_getElem? (i := 234) rfl), lw_t7 (List.mem_of_getElem? (i := 235) rfl)⟩
theorem lw_p68 : lw_okq (⟨"NobodyBeenAftModel", "laysLeast", "(I)V"⟩, 53) := ⟨⟨by decide +kernel, by decide +kernel⟩, lw_t5 (List.mem_of_getElem? (i := 227) rfl), lw_t7 (List.mem_of_getElem? (i := 238) rfl), lw_t7 (List.mem_of_getElem? (i := 239) rfl)⟩
theorem lw_p69 : lw_okq (⟨"NobodyBeenAftModel", "goesBy", "(IZ)V"⟩, 53) := ⟨⟨by decide +kernel, by decide +kernel⟩, lw_t5 (List.mem_of_getElem? (i := 227) rfl), lw_t8 (List.mem_of_getElem? (i := 2) rfl), lw_t8 (List.mem_of_getElem? (i := 3) rfl)⟩
theorem lw_p70 : lw_okq (⟨"NobodyBeenAftModel", "rocksIn", "(II)I"⟩, 53) := ⟨⟨by decide +kernel, by decide +kernel⟩, lw_t5 (List.mem_of_getElem? (i := 227) rfl), lw_t8 (List.mem_of_getElem? (i := 20) rfl), lw_t8 (List.mem_of_getElem? (i := 21) rfl)⟩
theorem lw_p71 : lw_okq (⟨"NobodyBeenAftModel", "postsFor", "(I)I"⟩, 53) := ⟨⟨by decide +kernel, by decide +kernel⟩, lw_t5 (List.mem_of_getElem? (i := 227) rfl), lw_t8 (List.mem_of_getElem? (i := 39) rfl), lw_t8 (List.mem_of_getElem? (i := 40) rfl)⟩
theorem lw_p72 : lw_okq (⟨"NobodyBeenAftModel", "bets", "(II)V"⟩, 53) := ⟨⟨by decide +kernel, by decide +kernel⟩, lw_t5 (List.mem_of_getElem? (i := 227) rfl), lw_t8 (List.mem_of_getElem? (i := 53) rfl), lw_t8 (List.mem_of_getElem? (i := 54) rfl)⟩
theorem lw_p73 : lw_okq (⟨"NobodyBeenAftModel", "tellsFraction", "(JJ)V"⟩, 53) := ⟨⟨by decide +kernel, by decide +kernel⟩, lw_t5 (List.mem_of_getElem? (i := 227) rfl), lw_t8 (List.mem_of_getElem? (i := 57) rfl), lw_t8 (List.mem_of_getElem? (i := 58) rfl)⟩
theorem lw_p74 : lw_okq (⟨"NobodyBeenAftModel", "lastsFor", "(II)I"⟩, 53) := ⟨⟨by decide +kernel, by decide +kernel⟩, lw_t5 (List.mem_of_getElem? (i := 227) rfl), lw_t8 (List.mem_of_getElem? (i := 73) rfl), lw_t8 (List.mem_of_getElem? (i := 74) rfl)⟩
theorem lw_p75 : lw_okq (⟨"NobodyBeenAftModel", "spare", "(II)I"⟩, 53) := ⟨⟨by decide +kernel, by decide +kernel⟩, lw_t5 (List.mem_of_getElem? (i := 227) rfl), lw_t8 (List.mem_of_getElem? (i := 82) rfl), lw_t8 (List.mem_of_getElem? (i := 83) rfl)⟩
theorem lw_p76 : lw_okq (⟨"NobodyBeenAftModel", "laysFlows", "(I)V"⟩, 53) := ⟨⟨by decide +kernel, by decide +kernel⟩, lw_t5 (List.mem_of_getElem? (i := 227) rfl), lw_t8 (List.mem_of_getElem? (i := 86) rfl), lw_t8 (List.mem_of_getElem? (i := 87) rfl)⟩
theorem lw_p77 : lw_okq (⟨"NobodyBeenAftModel", "flow", "(II)I"⟩, 53) := ⟨⟨by decide +kernel, by decide +kernel⟩, lw_t5 (List.mem_of_getElem? (i := 227) rfl), lw_t8 (List.mem_of_getElem? (i := 91) rfl), lw_t8 (List.mem_of_getElem? (i := 92) rfl)⟩
theorem lw_p78 : lw_okq (⟨"NobodyBeenAftModel", "seenIn", "(I)I"⟩, 53) := ⟨⟨by decide +kernel, by decide +kernel⟩, lw_t5 (List.mem_of_getElem? (i := 227) rfl), lw_t8 (List.mem_of_getElem? (i := 105) rfl), lw_t8 (List.mem_of_getElem? (i := 106) rfl)⟩
theorem lw_p79 : lw_okq (⟨"NobodyBeenAftModel", "lastSeen", "()I"⟩, 53) := ⟨⟨by decide +kernel, by decide +kernel⟩, lw_t5 (List.mem_of_getElem? (i := 227) rfl), lw_t8 (List.mem_of_getElem? (i := 117) rfl), lw_t8 (List.mem_of_getElem? (i := 118) rfl)⟩
def lw_privs_5 : List (MethodName × Nat) := [(⟨"NobodyBeenAftModel", "comesAt", "(II)Z"⟩, 53), (⟨"NobodyBeenAftModel", "mayGive", "(I)Z"⟩, 53), (⟨"NobodyBeenAftModel", "choosesAny", "(I)V"⟩, 53), (⟨"NobodyBeenAftModel", "fewestOrders", "(I)I"⟩, 53), (⟨"NobodyBeenAftModel", "laysLeast", "(I)V"⟩, 53), (⟨"NobodyBeenAftModel", "goesBy", "(IZ)V"⟩, 53), (⟨"NobodyBeenAftModel", "rocksIn", "(II)I"⟩, 53), (⟨"NobodyBeenAftModel", "postsFor", "(I)I"⟩, 53), (⟨"NobodyBeenAftModel", "bets", "(II)V"⟩, 53), (⟨"NobodyBeenAftModel", "tellsFraction", "(JJ)V"⟩, 53), (⟨"NobodyBeenAftModel", "lastsFor", "(II)I"⟩, 53), (⟨"NobodyBeenAftModel", "spare", "(II)I"⟩, 53), (⟨"NobodyBeenAftModel", "laysFlows", "(I)V"⟩, 53), (⟨"NobodyBeenAftModel", "flow", "(II)I"⟩, 53), (⟨"NobodyBeenAftModel", "seenIn", "(I)I"⟩, 53), (⟨"NobodyBeenAftModel", "lastSeen", "()I"⟩, 53)]
theorem lw_r5 : ∀ q ∈ lw_privs_5, lw_okq q := List.forall_mem_cons.mpr ⟨lw_p64, List.forall_mem_cons.mpr ⟨lw_p65, List.forall_mem_cons.mpr ⟨lw_p66, List.forall_mem_cons.mpr ⟨lw_p67, List.forall_mem_cons.mpr ⟨lw_p68, List.forall_mem_cons.mpr ⟨lw_p69, List.forall_mem_cons.mpr ⟨lw_p70, List.forall_mem_cons.mpr ⟨lw_p71, List.forall_mem_cons.mpr ⟨lw_p72, List.forall_mem_cons.mpr ⟨lw_p73, List.forall_mem_cons.mpr ⟨lw_p74, List.forall_mem_cons.mpr ⟨lw_p75, List.forall_mem_cons.mpr ⟨lw_p76, List.forall_mem_cons.mpr ⟨lw_p77, List.forall_mem_cons.mpr ⟨lw_p78, List.forall_mem_cons.mpr ⟨lw_p79, fun _ h => absurd h List.not_mem_nil⟩⟩⟩⟩⟩⟩⟩⟩⟩⟩⟩⟩⟩⟩⟩⟩
theorem lw_p80 : lw_okq (⟨"NobodyBeenAftModel", "laysSeen", "(I)V"⟩, 53) := ⟨⟨by decide +kernel, by decide +kernel⟩, lw_t5 (List.mem_of_getElem? (i := 227) rfl), lw_t8 (List.mem_of_getElem? (i := 121) rfl), lw_t8 (List.mem_of_getElem? (i := 122) rfl)⟩
theorem lw_p81 : lw_okq (⟨"NobodyBeenAftModel", "isFine", "(II)Z"⟩, 53) := ⟨⟨by decide +kernel, by decide +kernel⟩, lw_t5 (List.mem_of_getElem? (i := 227) rfl), lw_t8 (List.mem_of_getElem? (i := 125) rfl), lw_t8 (List.mem_of_getElem? (i := 126) rfl)⟩
theorem lw_p82 : lw_okq (⟨"NobodyBeenAftModel", "boyBegins", "(II)V"⟩, 53) := ⟨⟨by decide +kernel, by decide +kernel⟩, lw_t5 (List.mem_of_getElem? (i := 227) rfl), lw_t8 (List.mem_of_getElem? (i := 142) rfl), lw_t8 (List.mem_of_getElem? (i := 143) rfl)⟩
theorem lw_p83 : lw_okq (⟨"NobodyBeenAftModel", "boyGoes", "()V"⟩, 53) := ⟨⟨by decide +kernel, by decide +kernel⟩, lw_t5 (List.mem_of_getElem? (i := 227) rfl), lw_t8 (List.mem_of_getElem? (i := 146) rfl), lw_t8 (List.mem_of_getElem? (i := 147) rfl)⟩
def lw_privs_6 : List (MethodName × Nat) := [(⟨"NobodyBeenAftModel", "laysSeen", "(I)V"⟩, 53), (⟨"NobodyBeenAftModel", "isFine", "(II)Z"⟩, 53), (⟨"NobodyBeenAftModel", "boyBegins", "(II)V"⟩, 53), (⟨"NobodyBeenAftModel", "boyGoes", "()V"⟩, 53)]
theorem lw_r6 : ∀ q ∈ lw_privs_6, lw_okq q := List.forall_mem_cons.mpr ⟨lw_p80, List.forall_mem_cons.mpr ⟨lw_p81, List.forall_mem_cons.mpr ⟨lw_p82, List.forall_mem_cons.mpr ⟨lw_p83, fun _ h => absurd h List.not_mem_nil⟩⟩⟩⟩
def lw_privs : List (MethodName × Nat) := lw_privs_1 ++ (lw_privs_2 ++ (lw_privs_3 ++ (lw_privs_4 ++ (lw_privs_5 ++ (lw_privs_6)))))
def lw_tbl : List Cond := k2_sels lw_privs ++ tables_1
theorem lw_privs_ok : ∀ q ∈ lw_privs, lw_okq q := by
  show ∀ q ∈ lw_privs_1 ++ (lw_privs_2 ++ (lw_privs_3 ++ (lw_privs_4 ++ (lw_privs_5 ++ (lw_privs_6))))), lw_okq q
  exact List.forall_mem_append.mpr ⟨lw_r1, List.forall_mem_append.mpr ⟨lw_r2, List.forall_mem_append.mpr ⟨lw_r3, List.forall_mem_append.mpr ⟨lw_r4, List.forall_mem_append.mpr ⟨lw_r5, lw_r6⟩⟩⟩⟩⟩
-- ===== ONE list of words for every method: the tables' words that hold all through a run =====
def lw_all : List Cond := lw_tbl.filter goodWord
/-- a word of the tables by its place: claim/WORDS.tsv -/
theorem lw_w {w : Cond} (i : Nat) (h : lw_tbl[i]? = some w) (g : goodWord w = true) : w ∈ lw_all := List.mem_filter.mpr ⟨List.mem_of_getElem? h, g⟩
theorem lw_all_tbl {w : Cond} (h : w ∈ lw_all) : w ∈ lw_tbl := (List.mem_filter.mp h).1
theorem lw_self : GoodIn lw_all lw_all := fun w h => ⟨h, good_of_word (List.mem_filter.mp h).2⟩
/-- a class's field words, by their places -/
theorem lw_in (ws : List Cond) (ps : List Nat) (hp : ws = ps.filterMap (fun i => lw_tbl[i]?)) (hg : ws.all goodWord = true) : ∀ w ∈ ws, w ∈ lw_all := by
  intro w h
  have h1 := List.all_eq_true.mp hg w h
  rw [hp] at h
  obtain ⟨i, -, hi⟩ := List.mem_filterMap.mp h
  exact lw_w i hi h1
/-- the words of a contract for the method y with code b, L locals, answer r -/
abbrev ws_ (y : MethodName) (b : ByteArray) (L : Nat) (r : Option FieldType) : List Cond := Cond.code y b L r :: lw_all
theorem lw_meth {y : MethodName} {b : ByteArray} {L : Nat} {r : Option FieldType} (h : Cond.code y b L r ∈ lw_all) : GoodIn lw_all (ws_ y b L r) := by
  intro w hw
  rcases List.mem_cons.mp hw with e | e
  · rw [e]
    exact lw_self _ h
  · exact lw_self _ e
theorem lw_app {a c : List Cond} (ha : ∀ w ∈ a, w ∈ lw_all) (hc : GoodIn lw_all c) : GoodIn lw_all (a ++ c) := by
  intro w hw
  rcases List.mem_append.mp hw with e | e
  · exact lw_self w (ha w e)
  · exact hc w e
/-- what a call through an object asks: cwV n hts (lw_V ..) -/
theorem lw_V {own : String} {idx : Nat} {C : String} {y : MethodName} {b : ByteArray} {L : Nat} {r : Option FieldType} (h1 : Cond.methodLink own idx y ∈ lw_all) (h2 : Cond.instanceMethod y ∈ lw_all) (h3 : Cond.selects C y y ∈ lw_all) (h4 : Cond.initialized C ∈ lw_all) (h5 : Cond.code y b L r ∈ lw_all) : GoodIn lw_all (wsV own idx C y (ws_ y b L r)) := by
  refine lw_app ?_ (lw_meth h5)
  intro w hw
  simp only [List.mem_cons, List.not_mem_nil, or_false] at hw
  rcases hw with e | e | e | e
  · rw [e]; exact h1
  · rw [e]; exact h2
  · rw [e]; exact h3
  · rw [e]; exact h4
/-- what a static call asks: va_cwS n hts (lw_S ..) -/
theorem lw_S {own : String} {idx : Nat} {y : MethodName} {b : ByteArray} {L : Nat} {r : Option FieldType} (h1 : Cond.methodLink own idx y ∈ lw_all) (h2 : Cond.static y ∈ lw_all) (h3 : Cond.initialized y.cls ∈ lw_all) (h4 : Cond.code y b L r ∈ lw_all) : GoodIn lw_all (va_wsS own idx y (ws_ y b L r)) := by
  refine lw_app ?_ (lw_meth h4)
  intro w hw
  simp only [List.mem_cons, List.not_mem_nil, or_false] at hw
  rcases hw with e | e | e
  · rw [e]; exact h1
  · rw [e]; exact h2
  · rw [e]; exact h3
/-- the words of a contract for a method WITH HANDLERS (hh: its table) -/
abbrev wsW_ (y : MethodName) (b : ByteArray) (L : Nat) (r : Option FieldType) (hh : List (Nat × Nat × Nat × Nat)) : List Cond := Cond.codeWith y b L r hh :: lw_all
theorem lw_methW {y : MethodName} {b : ByteArray} {L : Nat} {r : Option FieldType} {hh : List (Nat × Nat × Nat × Nat)} (h : Cond.codeWith y b L r hh ∈ lw_all) : GoodIn lw_all (wsW_ y b L r hh) := by
  intro w hw
  rcases List.mem_cons.mp hw with e | e
  · rw [e]
    exact lw_self _ h
  · exact lw_self _ e
/-- any list of words by their places (lw_in), good -/
theorem lw_good {ws : List Cond} (h : ∀ w ∈ ws, w ∈ lw_all) : GoodIn lw_all ws := fun w hw => lw_self w (h w hw)
/-- what a call of a method with handlers asks: vx_cwVW n hts (lw_VW ..), vx_cwSW n hts (lw_SW ..) -/
theorem lw_VW {own : String} {idx : Nat} {C : String} {y : MethodName} {b : ByteArray} {L : Nat} {r : Option FieldType} {hh : List (Nat × Nat × Nat × Nat)} (h1 : Cond.methodLink own idx y ∈ lw_all) (h2 : Cond.instanceMethod y ∈ lw_all) (h3 : Cond.selects C y y ∈ lw_all) (h4 : Cond.initialized C ∈ lw_all) (h5 : Cond.codeWith y b L r hh ∈ lw_all) : GoodIn lw_all (wsV own idx C y (wsW_ y b L r hh)) := by
  refine lw_app ?_ (lw_methW h5)
  intro w hw
  simp only [List.mem_cons, List.not_mem_nil, or_false] at hw
  rcases hw with e | e | e | e
  · rw [e]; exact h1
  · rw [e]; exact h2
  · rw [e]; exact h3
  · rw [e]; exact h4
theorem lw_SW {own : String} {idx : Nat} {y : MethodName} {b : ByteArray} {L : Nat} {r : Option FieldType} {hh : List (Nat × Nat × Nat × Nat)} (h1 : Cond.methodLink own idx y ∈ lw_all) (h2 : Cond.static y ∈ lw_all) (h3 : Cond.initialized y.cls ∈ lw_all) (h4 : Cond.codeWith y b L r hh ∈ lw_all) : GoodIn lw_all (va_wsS own idx y (wsW_ y b L r hh)) := by
  refine lw_app ?_ (lw_methW h4)
  intro w hw
  simp only [List.mem_cons, List.not_mem_nil, or_false] at hw
  rcases hw with e | e | e
  · rw [e]; exact h1
  · rw [e]; exact h2
  · rw [e]; exact h3
/-- a word by its place in its run of the tables -/
theorem lw_at {r : List Cond} (hr : ∀ w ∈ r, w ∈ lw_tbl) {w : Cond} (i : Nat) (h : r[i]? = some w) : w ∈ lw_tbl := hr w (List.mem_of_getElem? h)
theorem lw_g {w : Cond} (h : w ∈ lw_tbl) (g : goodWord w = true) : w ∈ lw_all := List.mem_filter.mpr ⟨h, g⟩
theorem lw_ms : ∀ w ∈ k2_sels lw_privs, w ∈ lw_tbl := fun w h => show w ∈ k2_sels lw_privs ++ tables_1 from List.mem_append_left _ h
theorem lw_m1 : ∀ w ∈ tables_1_1, w ∈ lw_tbl := fun w h => show w ∈ k2_sels lw_privs ++ tables_1 from List.mem_append_right (k2_sels lw_privs) (show w ∈ tables_1 from List.mem_append_left _ h)
theorem lw_m2 : ∀ w ∈ tables_1_2, w ∈ lw_tbl := fun w h => show w ∈ k2_sels lw_privs ++ tables_1 from List.mem_append_right (k2_sels lw_privs) (show w ∈ tables_1 from List.mem_append_right _ (List.mem_append_left _ h))
theorem lw_m3 : ∀ w ∈ tables_1_3, w ∈ lw_tbl := fun w h => show w ∈ k2_sels lw_privs ++ tables_1 from List.mem_append_right (k2_sels lw_privs) (show w ∈ tables_1 from List.mem_append_right _ (List.mem_append_right _ (List.mem_append_left _ h)))
theorem lw_m4 : ∀ w ∈ tables_1_4, w ∈ lw_tbl := fun w h => show w ∈ k2_sels lw_privs ++ tables_1 from List.mem_append_right (k2_sels lw_privs) (show w ∈ tables_1 from List.mem_append_right _ (List.mem_append_right _ (List.mem_append_right _ (List.mem_append_left _ h))))
theorem lw_m5 : ∀ w ∈ tables_1_5, w ∈ lw_tbl := fun w h => show w ∈ k2_sels lw_privs ++ tables_1 from List.mem_append_right (k2_sels lw_privs) (show w ∈ tables_1 from List.mem_append_right _ (List.mem_append_right _ (List.mem_append_right _ (List.mem_append_right _ (List.mem_append_left _ h)))))
theorem lw_m6 : ∀ w ∈ tables_1_6, w ∈ lw_tbl := fun w h => show w ∈ k2_sels lw_privs ++ tables_1 from List.mem_append_right (k2_sels lw_privs) (show w ∈ tables_1 from List.mem_append_right _ (List.mem_append_right _ (List.mem_append_right _ (List.mem_append_right _ (List.mem_append_right _ (List.mem_append_left _ h))))))
theorem lw_m7 : ∀ w ∈ tables_1_7, w ∈ lw_tbl := fun w h => show w ∈ k2_sels lw_privs ++ tables_1 from List.mem_append_right (k2_sels lw_privs) (show w ∈ tables_1 from List.mem_append_right _ (List.mem_append_right _ (List.mem_append_right _ (List.mem_append_right _ (List.mem_append_right _ (List.mem_append_right _ (List.mem_append_left _ h)))))))
theorem lw_m8 : ∀ w ∈ tables_1_8, w ∈ lw_tbl := fun w h => show w ∈ k2_sels lw_privs ++ tables_1 from List.mem_append_right (k2_sels lw_privs) (show w ∈ tables_1 from List.mem_append_right _ (List.mem_append_right _ (List.mem_append_right _ (List.mem_append_right _ (List.mem_append_right _ (List.mem_append_right _ (List.mem_append_right _ h)))))))
theorem qs0 : (Cond.selects "NobodyBeenAft" ⟨"NobodyBeenAft", "words", "(I)LNobodyBeenAft$Words;"⟩ ⟨"NobodyBeenAft", "words", "(I)LNobodyBeenAft$Words;"⟩) ∈ lw_all := lw_g (lw_at lw_ms 0 rfl) rfl
theorem qs1 : (Cond.selects "java/lang/Throwable" ⟨"java/lang/Throwable", "fillInStackTrace", "(I)Ljava/lang/Throwable;"⟩ ⟨"java/lang/Throwable", "fillInStackTrace", "(I)Ljava/lang/Throwable;"⟩) ∈ lw_all := lw_g (lw_at lw_ms 1 rfl) rfl
theorem qs2 : (Cond.selects "NobodyBeenAft$Rule" ⟨"NobodyBeenAft$Rule", "held", "(I)I"⟩ ⟨"NobodyBeenAft$Rule", "held", "(I)I"⟩) ∈ lw_all := lw_g (lw_at lw_ms 2 rfl) rfl
theorem qs3 : (Cond.selects "NobodyBeenAft$Rule" ⟨"NobodyBeenAft$Rule", "sum", "(I)I"⟩ ⟨"NobodyBeenAft$Rule", "sum", "(I)I"⟩) ∈ lw_all := lw_g (lw_at lw_ms 3 rfl) rfl
theorem qs4 : (Cond.selects "NobodyBeenAft$Rule" ⟨"NobodyBeenAft$Rule", "product", "(I)I"⟩ ⟨"NobodyBeenAft$Rule", "product", "(I)I"⟩) ∈ lw_all := lw_g (lw_at lw_ms 4 rfl) rfl
theorem qs5 : (Cond.selects "NobodyBeenAft$Rule" ⟨"NobodyBeenAft$Rule", "thing", "(I)I"⟩ ⟨"NobodyBeenAft$Rule", "thing", "(I)I"⟩) ∈ lw_all := lw_g (lw_at lw_ms 5 rfl) rfl
theorem qs6 : (Cond.selects "NobodyBeenAft$Rule" ⟨"NobodyBeenAft$Rule", "value", "(I)I"⟩ ⟨"NobodyBeenAft$Rule", "value", "(I)I"⟩) ∈ lw_all := lw_g (lw_at lw_ms 6 rfl) rfl
theorem qs7 : (Cond.selects "NobodyBeenAft" ⟨"NobodyBeenAft", "delayAt", "(I)I"⟩ ⟨"NobodyBeenAft", "delayAt", "(I)I"⟩) ∈ lw_all := lw_g (lw_at lw_ms 7 rfl) rfl
theorem qs8 : (Cond.selects "NobodyBeenAft" ⟨"NobodyBeenAft", "remember", "(LNobodyBeenAft$Watch;)V"⟩ ⟨"NobodyBeenAft", "remember", "(LNobodyBeenAft$Watch;)V"⟩) ∈ lw_all := lw_g (lw_at lw_ms 8 rfl) rfl
theorem qs9 : (Cond.selects "NobodyBeenAft" ⟨"NobodyBeenAft", "orders", "(LNobodyBeenAft$Watch;I)I"⟩ ⟨"NobodyBeenAft", "orders", "(LNobodyBeenAft$Watch;I)I"⟩) ∈ lw_all := lw_g (lw_at lw_ms 9 rfl) rfl
theorem qs10 : (Cond.selects "NobodyBeenAft" ⟨"NobodyBeenAft", "turned", "(I)I"⟩ ⟨"NobodyBeenAft", "turned", "(I)I"⟩) ∈ lw_all := lw_g (lw_at lw_ms 10 rfl) rfl
theorem qs11 : (Cond.selects "NobodyBeenAft" ⟨"NobodyBeenAft", "refusesPass", "(III)I"⟩ ⟨"NobodyBeenAft", "refusesPass", "(III)I"⟩) ∈ lw_all := lw_g (lw_at lw_ms 11 rfl) rfl
theorem qs12 : (Cond.selects "NobodyBeenAft" ⟨"NobodyBeenAft", "isMess", "(I)Z"⟩ ⟨"NobodyBeenAft", "isMess", "(I)Z"⟩) ∈ lw_all := lw_g (lw_at lw_ms 12 rfl) rfl
theorem qs13 : (Cond.selects "NobodyBeenAft" ⟨"NobodyBeenAft", "passes", "(III)I"⟩ ⟨"NobodyBeenAft", "passes", "(III)I"⟩) ∈ lw_all := lw_g (lw_at lw_ms 13 rfl) rfl
theorem qs14 : (Cond.selects "NobodyBeenAft" ⟨"NobodyBeenAft", "goSteps", "(LNobodyBeenAft$Watch;I)V"⟩ ⟨"NobodyBeenAft", "goSteps", "(LNobodyBeenAft$Watch;I)V"⟩) ∈ lw_all := lw_g (lw_at lw_ms 14 rfl) rfl
theorem qs15 : (Cond.selects "NobodyBeenAft" ⟨"NobodyBeenAft", "goStep", "(LNobodyBeenAft$Watch;)V"⟩ ⟨"NobodyBeenAft", "goStep", "(LNobodyBeenAft$Watch;)V"⟩) ∈ lw_all := lw_g (lw_at lw_ms 15 rfl) rfl
theorem qs16 : (Cond.selects "NobodyBeenAft" ⟨"NobodyBeenAft", "hitsAt", "(II)I"⟩ ⟨"NobodyBeenAft", "hitsAt", "(II)I"⟩) ∈ lw_all := lw_g (lw_at lw_ms 16 rfl) rfl
theorem qs17 : (Cond.selects "NobodyBeenAft" ⟨"NobodyBeenAft", "tell", "(J)V"⟩ ⟨"NobodyBeenAft", "tell", "(J)V"⟩) ∈ lw_all := lw_g (lw_at lw_ms 17 rfl) rfl
theorem qs18 : (Cond.selects "NobodyBeenAft$Log" ⟨"NobodyBeenAft$Log", "act", "()V"⟩ ⟨"NobodyBeenAft$Log", "act", "()V"⟩) ∈ lw_all := lw_g (lw_at lw_ms 18 rfl) rfl
theorem qs19 : (Cond.selects "NobodyBeenAft" ⟨"NobodyBeenAft", "act", "(CI)Z"⟩ ⟨"NobodyBeenAft", "act", "(CI)Z"⟩) ∈ lw_all := lw_g (lw_at lw_ms 19 rfl) rfl
theorem qs20 : (Cond.selects "NobodyBeenAft" ⟨"NobodyBeenAft", "rocksIn", "(II)I"⟩ ⟨"NobodyBeenAft", "rocksIn", "(II)I"⟩) ∈ lw_all := lw_g (lw_at lw_ms 20 rfl) rfl
theorem qs21 : (Cond.selects "NobodyBeenAft" ⟨"NobodyBeenAft", "tellPart", "(JJ)V"⟩ ⟨"NobodyBeenAft", "tellPart", "(JJ)V"⟩) ∈ lw_all := lw_g (lw_at lw_ms 21 rfl) rfl
theorem qs22 : (Cond.selects "NobodyBeenAft" ⟨"NobodyBeenAft", "eatsIn", "(II)I"⟩ ⟨"NobodyBeenAft", "eatsIn", "(II)I"⟩) ∈ lw_all := lw_g (lw_at lw_ms 22 rfl) rfl
theorem qs23 : (Cond.selects "NobodyBeenAft" ⟨"NobodyBeenAft", "foodIn", "(II)I"⟩ ⟨"NobodyBeenAft", "foodIn", "(II)I"⟩) ∈ lw_all := lw_g (lw_at lw_ms 23 rfl) rfl
theorem qs24 : (Cond.selects "NobodyBeenAft" ⟨"NobodyBeenAft", "leastFrom", "(III)I"⟩ ⟨"NobodyBeenAft", "leastFrom", "(III)I"⟩) ∈ lw_all := lw_g (lw_at lw_ms 24 rfl) rfl
theorem qs25 : (Cond.selects "NobodyBeenAft" ⟨"NobodyBeenAft", "spare", "(III)I"⟩ ⟨"NobodyBeenAft", "spare", "(III)I"⟩) ∈ lw_all := lw_g (lw_at lw_ms 25 rfl) rfl
theorem qs26 : (Cond.selects "NobodyBeenAft" ⟨"NobodyBeenAft", "findRows", "()V"⟩ ⟨"NobodyBeenAft", "findRows", "()V"⟩) ∈ lw_all := lw_g (lw_at lw_ms 26 rfl) rfl
theorem qs27 : (Cond.selects "NobodyBeenAft" ⟨"NobodyBeenAft", "lastSeen", "()I"⟩ ⟨"NobodyBeenAft", "lastSeen", "()I"⟩) ∈ lw_all := lw_g (lw_at lw_ms 27 rfl) rfl
theorem qs28 : (Cond.selects "NobodyBeenAft" ⟨"NobodyBeenAft", "canSee", "(II)Z"⟩ ⟨"NobodyBeenAft", "canSee", "(II)Z"⟩) ∈ lw_all := lw_g (lw_at lw_ms 28 rfl) rfl
theorem qs29 : (Cond.selects "NobodyBeenAft" ⟨"NobodyBeenAft", "lanesIn", "(I)I"⟩ ⟨"NobodyBeenAft", "lanesIn", "(I)I"⟩) ∈ lw_all := lw_g (lw_at lw_ms 29 rfl) rfl
theorem qs30 : (Cond.selects "NobodyBeenAft" ⟨"NobodyBeenAft", "walked", "(I)I"⟩ ⟨"NobodyBeenAft", "walked", "(I)I"⟩) ∈ lw_all := lw_g (lw_at lw_ms 30 rfl) rfl
theorem qs31 : (Cond.selects "NobodyBeenAftModel" ⟨"NobodyBeenAftModel", "begins", "(I)I"⟩ ⟨"NobodyBeenAftModel", "begins", "(I)I"⟩) ∈ lw_all := lw_g (lw_at lw_ms 31 rfl) rfl
theorem qs32 : (Cond.selects "NobodyBeenAftModel" ⟨"NobodyBeenAftModel", "numberIn", "(III)I"⟩ ⟨"NobodyBeenAftModel", "numberIn", "(III)I"⟩) ∈ lw_all := lw_g (lw_at lw_ms 32 rfl) rfl
theorem qs33 : (Cond.selects "NobodyBeenAftModel" ⟨"NobodyBeenAftModel", "number", "(I)I"⟩ ⟨"NobodyBeenAftModel", "number", "(I)I"⟩) ∈ lw_all := lw_g (lw_at lw_ms 33 rfl) rfl
theorem qs34 : (Cond.selects "NobodyBeenAftModel" ⟨"NobodyBeenAftModel", "isDigit", "()Z"⟩ ⟨"NobodyBeenAftModel", "isDigit", "()Z"⟩) ∈ lw_all := lw_g (lw_at lw_ms 34 rfl) rfl
theorem qs35 : (Cond.selects "NobodyBeenAftModel" ⟨"NobodyBeenAftModel", "takes", "(I)Z"⟩ ⟨"NobodyBeenAftModel", "takes", "(I)Z"⟩) ∈ lw_all := lw_g (lw_at lw_ms 35 rfl) rfl
theorem qs36 : (Cond.selects "NobodyBeenAftModel" ⟨"NobodyBeenAftModel", "faultOf", "(IIZ)I"⟩ ⟨"NobodyBeenAftModel", "faultOf", "(IIZ)I"⟩) ∈ lw_all := lw_g (lw_at lw_ms 36 rfl) rfl
theorem qs37 : (Cond.selects "NobodyBeenAftModel" ⟨"NobodyBeenAftModel", "readsRock", "()Z"⟩ ⟨"NobodyBeenAftModel", "readsRock", "()Z"⟩) ∈ lw_all := lw_g (lw_at lw_ms 37 rfl) rfl
theorem qs38 : (Cond.selects "NobodyBeenAftModel" ⟨"NobodyBeenAftModel", "takesOf", "(Ljava/lang/String;)I"⟩ ⟨"NobodyBeenAftModel", "takesOf", "(Ljava/lang/String;)I"⟩) ∈ lw_all := lw_g (lw_at lw_ms 38 rfl) rfl
theorem qs39 : (Cond.selects "NobodyBeenAftModel" ⟨"NobodyBeenAftModel", "among", "(Ljava/lang/String;)I"⟩ ⟨"NobodyBeenAftModel", "among", "(Ljava/lang/String;)I"⟩) ∈ lw_all := lw_g (lw_at lw_ms 39 rfl) rfl
theorem qs40 : (Cond.selects "NobodyBeenAftModel" ⟨"NobodyBeenAftModel", "readsMess", "()Z"⟩ ⟨"NobodyBeenAftModel", "readsMess", "()Z"⟩) ∈ lw_all := lw_g (lw_at lw_ms 40 rfl) rfl
theorem qs41 : (Cond.selects "NobodyBeenAftModel" ⟨"NobodyBeenAftModel", "readsRank", "(I)Z"⟩ ⟨"NobodyBeenAftModel", "readsRank", "(I)Z"⟩) ∈ lw_all := lw_g (lw_at lw_ms 41 rfl) rfl
theorem qs42 : (Cond.selects "NobodyBeenAftModel" ⟨"NobodyBeenAftModel", "readsThing", "()Z"⟩ ⟨"NobodyBeenAftModel", "readsThing", "()Z"⟩) ∈ lw_all := lw_g (lw_at lw_ms 42 rfl) rfl
theorem qs43 : (Cond.selects "NobodyBeenAftModel" ⟨"NobodyBeenAftModel", "codes", "(I)V"⟩ ⟨"NobodyBeenAftModel", "codes", "(I)V"⟩) ∈ lw_all := lw_g (lw_at lw_ms 43 rfl) rfl
theorem qs44 : (Cond.selects "NobodyBeenAftModel" ⟨"NobodyBeenAftModel", "refuse", "()I"⟩ ⟨"NobodyBeenAftModel", "refuse", "()I"⟩) ∈ lw_all := lw_g (lw_at lw_ms 44 rfl) rfl
theorem qs45 : (Cond.selects "NobodyBeenAftModel" ⟨"NobodyBeenAftModel", "isMess", "(I)Z"⟩ ⟨"NobodyBeenAftModel", "isMess", "(I)Z"⟩) ∈ lw_all := lw_g (lw_at lw_ms 45 rfl) rfl
theorem qs46 : (Cond.selects "NobodyBeenAftModel" ⟨"NobodyBeenAftModel", "isAhead", "(II)Z"⟩ ⟨"NobodyBeenAftModel", "isAhead", "(II)Z"⟩) ∈ lw_all := lw_g (lw_at lw_ms 46 rfl) rfl
theorem qs47 : (Cond.selects "NobodyBeenAftModel" ⟨"NobodyBeenAftModel", "delayAt", "(I)I"⟩ ⟨"NobodyBeenAftModel", "delayAt", "(I)I"⟩) ∈ lw_all := lw_g (lw_at lw_ms 47 rfl) rfl
theorem qs48 : (Cond.selects "NobodyBeenAftModel" ⟨"NobodyBeenAftModel", "ruled", "()I"⟩ ⟨"NobodyBeenAftModel", "ruled", "()I"⟩) ∈ lw_all := lw_g (lw_at lw_ms 48 rfl) rfl
theorem qs49 : (Cond.selects "NobodyBeenAftModel" ⟨"NobodyBeenAftModel", "putsBy", "()V"⟩ ⟨"NobodyBeenAftModel", "putsBy", "()V"⟩) ∈ lw_all := lw_g (lw_at lw_ms 49 rfl) rfl
theorem qs50 : (Cond.selects "NobodyBeenAftModel" ⟨"NobodyBeenAftModel", "gives", "([II)I"⟩ ⟨"NobodyBeenAftModel", "gives", "([II)I"⟩) ∈ lw_all := lw_g (lw_at lw_ms 50 rfl) rfl
theorem qs51 : (Cond.selects "NobodyBeenAftModel" ⟨"NobodyBeenAftModel", "turned", "(I)I"⟩ ⟨"NobodyBeenAftModel", "turned", "(I)I"⟩) ∈ lw_all := lw_g (lw_at lw_ms 51 rfl) rfl
theorem qs52 : (Cond.selects "NobodyBeenAftModel" ⟨"NobodyBeenAftModel", "counts", "(I)I"⟩ ⟨"NobodyBeenAftModel", "counts", "(I)I"⟩) ∈ lw_all := lw_g (lw_at lw_ms 52 rfl) rfl
theorem qs53 : (Cond.selects "NobodyBeenAftModel" ⟨"NobodyBeenAftModel", "adds", "(I)I"⟩ ⟨"NobodyBeenAftModel", "adds", "(I)I"⟩) ∈ lw_all := lw_g (lw_at lw_ms 53 rfl) rfl
theorem qs54 : (Cond.selects "NobodyBeenAftModel" ⟨"NobodyBeenAftModel", "passes", "(III)I"⟩ ⟨"NobodyBeenAftModel", "passes", "(III)I"⟩) ∈ lw_all := lw_g (lw_at lw_ms 54 rfl) rfl
theorem qs55 : (Cond.selects "NobodyBeenAftModel" ⟨"NobodyBeenAftModel", "cooks", "(II)I"⟩ ⟨"NobodyBeenAftModel", "cooks", "(II)I"⟩) ∈ lw_all := lw_g (lw_at lw_ms 55 rfl) rfl
theorem qs56 : (Cond.selects "NobodyBeenAftModel" ⟨"NobodyBeenAftModel", "startsCounting", "()V"⟩ ⟨"NobodyBeenAftModel", "startsCounting", "()V"⟩) ∈ lw_all := lw_g (lw_at lw_ms 56 rfl) rfl
theorem qs57 : (Cond.selects "NobodyBeenAftModel" ⟨"NobodyBeenAftModel", "stepGoes", "([I)V"⟩ ⟨"NobodyBeenAftModel", "stepGoes", "([I)V"⟩) ∈ lw_all := lw_g (lw_at lw_ms 57 rfl) rfl
theorem qs58 : (Cond.selects "NobodyBeenAftModel" ⟨"NobodyBeenAftModel", "hitsAt", "(II)I"⟩ ⟨"NobodyBeenAftModel", "hitsAt", "(II)I"⟩) ∈ lw_all := lw_g (lw_at lw_ms 58 rfl) rfl
theorem qs59 : (Cond.selects "NobodyBeenAftModel" ⟨"NobodyBeenAftModel", "enters", "(J)V"⟩ ⟨"NobodyBeenAftModel", "enters", "(J)V"⟩) ∈ lw_all := lw_g (lw_at lw_ms 59 rfl) rfl
theorem qs60 : (Cond.selects "NobodyBeenAftModel" ⟨"NobodyBeenAftModel", "readsAct", "()Z"⟩ ⟨"NobodyBeenAftModel", "readsAct", "()Z"⟩) ∈ lw_all := lw_g (lw_at lw_ms 60 rfl) rfl
theorem qs61 : (Cond.selects "NobodyBeenAftModel" ⟨"NobodyBeenAftModel", "does", "(I)Z"⟩ ⟨"NobodyBeenAftModel", "does", "(I)Z"⟩) ∈ lw_all := lw_g (lw_at lw_ms 61 rfl) rfl
theorem qs62 : (Cond.selects "NobodyBeenAftModel" ⟨"NobodyBeenAftModel", "puts", "()V"⟩ ⟨"NobodyBeenAftModel", "puts", "()V"⟩) ∈ lw_all := lw_g (lw_at lw_ms 62 rfl) rfl
theorem qs63 : (Cond.selects "NobodyBeenAftModel" ⟨"NobodyBeenAftModel", "movedByDue", "(II)I"⟩ ⟨"NobodyBeenAftModel", "movedByDue", "(II)I"⟩) ∈ lw_all := lw_g (lw_at lw_ms 63 rfl) rfl
theorem qs64 : (Cond.selects "NobodyBeenAftModel" ⟨"NobodyBeenAftModel", "comesAt", "(II)Z"⟩ ⟨"NobodyBeenAftModel", "comesAt", "(II)Z"⟩) ∈ lw_all := lw_g (lw_at lw_ms 64 rfl) rfl
theorem qs65 : (Cond.selects "NobodyBeenAftModel" ⟨"NobodyBeenAftModel", "mayGive", "(I)Z"⟩ ⟨"NobodyBeenAftModel", "mayGive", "(I)Z"⟩) ∈ lw_all := lw_g (lw_at lw_ms 65 rfl) rfl
theorem qs66 : (Cond.selects "NobodyBeenAftModel" ⟨"NobodyBeenAftModel", "choosesAny", "(I)V"⟩ ⟨"NobodyBeenAftModel", "choosesAny", "(I)V"⟩) ∈ lw_all := lw_g (lw_at lw_ms 66 rfl) rfl
theorem qs67 : (Cond.selects "NobodyBeenAftModel" ⟨"NobodyBeenAftModel", "fewestOrders", "(I)I"⟩ ⟨"NobodyBeenAftModel", "fewestOrders", "(I)I"⟩) ∈ lw_all := lw_g (lw_at lw_ms 67 rfl) rfl
theorem qs68 : (Cond.selects "NobodyBeenAftModel" ⟨"NobodyBeenAftModel", "laysLeast", "(I)V"⟩ ⟨"NobodyBeenAftModel", "laysLeast", "(I)V"⟩) ∈ lw_all := lw_g (lw_at lw_ms 68 rfl) rfl
theorem qs69 : (Cond.selects "NobodyBeenAftModel" ⟨"NobodyBeenAftModel", "goesBy", "(IZ)V"⟩ ⟨"NobodyBeenAftModel", "goesBy", "(IZ)V"⟩) ∈ lw_all := lw_g (lw_at lw_ms 69 rfl) rfl
theorem qs70 : (Cond.selects "NobodyBeenAftModel" ⟨"NobodyBeenAftModel", "rocksIn", "(II)I"⟩ ⟨"NobodyBeenAftModel", "rocksIn", "(II)I"⟩) ∈ lw_all := lw_g (lw_at lw_ms 70 rfl) rfl
theorem qs71 : (Cond.selects "NobodyBeenAftModel" ⟨"NobodyBeenAftModel", "postsFor", "(I)I"⟩ ⟨"NobodyBeenAftModel", "postsFor", "(I)I"⟩) ∈ lw_all := lw_g (lw_at lw_ms 71 rfl) rfl
theorem qs72 : (Cond.selects "NobodyBeenAftModel" ⟨"NobodyBeenAftModel", "bets", "(II)V"⟩ ⟨"NobodyBeenAftModel", "bets", "(II)V"⟩) ∈ lw_all := lw_g (lw_at lw_ms 72 rfl) rfl
theorem qs73 : (Cond.selects "NobodyBeenAftModel" ⟨"NobodyBeenAftModel", "tellsFraction", "(JJ)V"⟩ ⟨"NobodyBeenAftModel", "tellsFraction", "(JJ)V"⟩) ∈ lw_all := lw_g (lw_at lw_ms 73 rfl) rfl
theorem qs74 : (Cond.selects "NobodyBeenAftModel" ⟨"NobodyBeenAftModel", "lastsFor", "(II)I"⟩ ⟨"NobodyBeenAftModel", "lastsFor", "(II)I"⟩) ∈ lw_all := lw_g (lw_at lw_ms 74 rfl) rfl
theorem qs75 : (Cond.selects "NobodyBeenAftModel" ⟨"NobodyBeenAftModel", "spare", "(II)I"⟩ ⟨"NobodyBeenAftModel", "spare", "(II)I"⟩) ∈ lw_all := lw_g (lw_at lw_ms 75 rfl) rfl
theorem qs76 : (Cond.selects "NobodyBeenAftModel" ⟨"NobodyBeenAftModel", "laysFlows", "(I)V"⟩ ⟨"NobodyBeenAftModel", "laysFlows", "(I)V"⟩) ∈ lw_all := lw_g (lw_at lw_ms 76 rfl) rfl
theorem qs77 : (Cond.selects "NobodyBeenAftModel" ⟨"NobodyBeenAftModel", "flow", "(II)I"⟩ ⟨"NobodyBeenAftModel", "flow", "(II)I"⟩) ∈ lw_all := lw_g (lw_at lw_ms 77 rfl) rfl
theorem qs78 : (Cond.selects "NobodyBeenAftModel" ⟨"NobodyBeenAftModel", "seenIn", "(I)I"⟩ ⟨"NobodyBeenAftModel", "seenIn", "(I)I"⟩) ∈ lw_all := lw_g (lw_at lw_ms 78 rfl) rfl
theorem qs79 : (Cond.selects "NobodyBeenAftModel" ⟨"NobodyBeenAftModel", "lastSeen", "()I"⟩ ⟨"NobodyBeenAftModel", "lastSeen", "()I"⟩) ∈ lw_all := lw_g (lw_at lw_ms 79 rfl) rfl
theorem qs80 : (Cond.selects "NobodyBeenAftModel" ⟨"NobodyBeenAftModel", "laysSeen", "(I)V"⟩ ⟨"NobodyBeenAftModel", "laysSeen", "(I)V"⟩) ∈ lw_all := lw_g (lw_at lw_ms 80 rfl) rfl
theorem qs81 : (Cond.selects "NobodyBeenAftModel" ⟨"NobodyBeenAftModel", "isFine", "(II)Z"⟩ ⟨"NobodyBeenAftModel", "isFine", "(II)Z"⟩) ∈ lw_all := lw_g (lw_at lw_ms 81 rfl) rfl
theorem qs82 : (Cond.selects "NobodyBeenAftModel" ⟨"NobodyBeenAftModel", "boyBegins", "(II)V"⟩ ⟨"NobodyBeenAftModel", "boyBegins", "(II)V"⟩) ∈ lw_all := lw_g (lw_at lw_ms 82 rfl) rfl
theorem qs83 : (Cond.selects "NobodyBeenAftModel" ⟨"NobodyBeenAftModel", "boyGoes", "()V"⟩ ⟨"NobodyBeenAftModel", "boyGoes", "()V"⟩) ∈ lw_all := lw_g (lw_at lw_ms 83 rfl) rfl
-- ===== end of PART A; then your names; then what follows =====
