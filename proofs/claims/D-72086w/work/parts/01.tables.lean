-- ===== PART A: goes FIRST, ahead of the names: the tables' words, and 'selects' of the private methods out of them =====
/-- a private method of a class that the tables say can be made, by its rows of tables_1 -/
def lw_okq (q : MethodName × Nat) : Prop := (q.1.cls ≠ "java/lang/invoke/MethodHandle" ∧ q.1.cls ≠ "java/lang/invoke/VarHandle") ∧ Cond.instantiable q.1.cls q.2 ∈ tables_1 ∧ Cond.privateMethod q.1 ∈ tables_1 ∧ Cond.instanceMethod q.1 ∈ tables_1
set_option maxRecDepth 100000
theorem lw_t1 {w : Cond} (h : w ∈ tables_1_1) : w ∈ tables_1 := List.mem_append_left _ h
theorem lw_t2 {w : Cond} (h : w ∈ tables_1_2) : w ∈ tables_1 := List.mem_append_right _ (List.mem_append_left _ h)
theorem lw_t3 {w : Cond} (h : w ∈ tables_1_3) : w ∈ tables_1 := List.mem_append_right _ (List.mem_append_right _ (List.mem_append_left _ h))
theorem lw_t4 {w : Cond} (h : w ∈ tables_1_4) : w ∈ tables_1 := List.mem_append_right _ (List.mem_append_right _ (List.mem_append_right _ (List.mem_append_left _ h)))
theorem lw_t5 {w : Cond} (h : w ∈ tables_1_5) : w ∈ tables_1 := List.mem_append_right _ (List.mem_append_right _ (List.mem_append_right _ (List.mem_append_right _ h)))
theorem lw_p0 : lw_okq (⟨"LiarClocks", "readText", "()I"⟩, 19) := ⟨⟨by decide +kernel, by decide +kernel⟩, lw_t1 (List.mem_of_getElem? (i := 34) rfl), lw_t1 (List.mem_of_getElem? (i := 32) rfl), lw_t1 (List.mem_of_getElem? (i := 33) rfl)⟩
theorem lw_p1 : lw_okq (⟨"LiarClocks$Reader", "here", "()I"⟩, 5) := ⟨⟨by decide +kernel, by decide +kernel⟩, lw_t1 (List.mem_of_getElem? (i := 38) rfl), lw_t1 (List.mem_of_getElem? (i := 142) rfl), lw_t1 (List.mem_of_getElem? (i := 143) rfl)⟩
theorem lw_p2 : lw_okq (⟨"LiarClocks$Reader", "clause", "()V"⟩, 5) := ⟨⟨by decide +kernel, by decide +kernel⟩, lw_t1 (List.mem_of_getElem? (i := 38) rfl), lw_t1 (List.mem_of_getElem? (i := 146) rfl), lw_t1 (List.mem_of_getElem? (i := 147) rfl)⟩
theorem lw_p3 : lw_okq (⟨"LiarClocks$Reader", "place", "()I"⟩, 5) := ⟨⟨by decide +kernel, by decide +kernel⟩, lw_t1 (List.mem_of_getElem? (i := 38) rfl), lw_t1 (List.mem_of_getElem? (i := 150) rfl), lw_t1 (List.mem_of_getElem? (i := 151) rfl)⟩
theorem lw_p4 : lw_okq (⟨"LiarClocks$Reader", "readClock", "(I)V"⟩, 5) := ⟨⟨by decide +kernel, by decide +kernel⟩, lw_t1 (List.mem_of_getElem? (i := 38) rfl), lw_t1 (List.mem_of_getElem? (i := 154) rfl), lw_t1 (List.mem_of_getElem? (i := 155) rfl)⟩
theorem lw_p5 : lw_okq (⟨"LiarClocks$Reader", "check", "(ZZZI)V"⟩, 5) := ⟨⟨by decide +kernel, by decide +kernel⟩, lw_t1 (List.mem_of_getElem? (i := 38) rfl), lw_t1 (List.mem_of_getElem? (i := 158) rfl), lw_t1 (List.mem_of_getElem? (i := 159) rfl)⟩
theorem lw_p6 : lw_okq (⟨"java/lang/Throwable", "fillInStackTrace", "(I)Ljava/lang/Throwable;"⟩, 6) := ⟨⟨by decide +kernel, by decide +kernel⟩, lw_t1 (List.mem_of_getElem? (i := 204) rfl), lw_t1 (List.mem_of_getElem? (i := 202) rfl), lw_t1 (List.mem_of_getElem? (i := 203) rfl)⟩
theorem lw_p7 : lw_okq (⟨"LiarClocks$Reader", "numberIn", "(II)I"⟩, 5) := ⟨⟨by decide +kernel, by decide +kernel⟩, lw_t1 (List.mem_of_getElem? (i := 38) rfl), lw_t2 (List.mem_of_getElem? (i := 46) rfl), lw_t2 (List.mem_of_getElem? (i := 47) rfl)⟩
theorem lw_p8 : lw_okq (⟨"LiarClocks$Reader", "number", "()I"⟩, 5) := ⟨⟨by decide +kernel, by decide +kernel⟩, lw_t1 (List.mem_of_getElem? (i := 38) rfl), lw_t2 (List.mem_of_getElem? (i := 51) rfl), lw_t2 (List.mem_of_getElem? (i := 52) rfl)⟩
theorem lw_p9 : lw_okq (⟨"LiarClocks$Reader", "readLiar", "()V"⟩, 5) := ⟨⟨by decide +kernel, by decide +kernel⟩, lw_t1 (List.mem_of_getElem? (i := 38) rfl), lw_t2 (List.mem_of_getElem? (i := 77) rfl), lw_t2 (List.mem_of_getElem? (i := 78) rfl)⟩
theorem lw_p10 : lw_okq (⟨"LiarClocks$Reader", "readStrike", "(I)V"⟩, 5) := ⟨⟨by decide +kernel, by decide +kernel⟩, lw_t1 (List.mem_of_getElem? (i := 38) rfl), lw_t2 (List.mem_of_getElem? (i := 81) rfl), lw_t2 (List.mem_of_getElem? (i := 82) rfl)⟩
theorem lw_p11 : lw_okq (⟨"LiarClocks$Reader", "readStep", "(I)V"⟩, 5) := ⟨⟨by decide +kernel, by decide +kernel⟩, lw_t1 (List.mem_of_getElem? (i := 38) rfl), lw_t2 (List.mem_of_getElem? (i := 85) rfl), lw_t2 (List.mem_of_getElem? (i := 86) rfl)⟩
theorem lw_p12 : lw_okq (⟨"LiarClocks", "worst", "()I"⟩, 19) := ⟨⟨by decide +kernel, by decide +kernel⟩, lw_t1 (List.mem_of_getElem? (i := 34) rfl), lw_t2 (List.mem_of_getElem? (i := 144) rfl), lw_t2 (List.mem_of_getElem? (i := 145) rfl)⟩
theorem lw_p13 : lw_okq (⟨"LiarClocks", "worstOf", "(I)I"⟩, 19) := ⟨⟨by decide +kernel, by decide +kernel⟩, lw_t1 (List.mem_of_getElem? (i := 34) rfl), lw_t2 (List.mem_of_getElem? (i := 155) rfl), lw_t2 (List.mem_of_getElem? (i := 156) rfl)⟩
theorem lw_p14 : lw_okq (⟨"LiarClocks", "extremeOf", "(II)I"⟩, 19) := ⟨⟨by decide +kernel, by decide +kernel⟩, lw_t1 (List.mem_of_getElem? (i := 34) rfl), lw_t2 (List.mem_of_getElem? (i := 160) rfl), lw_t2 (List.mem_of_getElem? (i := 161) rfl)⟩
theorem lw_p15 : lw_okq (⟨"LiarClocks", "hear", "(I)V"⟩, 19) := ⟨⟨by decide +kernel, by decide +kernel⟩, lw_t1 (List.mem_of_getElem? (i := 34) rfl), lw_t2 (List.mem_of_getElem? (i := 168) rfl), lw_t2 (List.mem_of_getElem? (i := 169) rfl)⟩
def lw_privs_1 : List (MethodName × Nat) := [(⟨"LiarClocks", "readText", "()I"⟩, 19), (⟨"LiarClocks$Reader", "here", "()I"⟩, 5), (⟨"LiarClocks$Reader", "clause", "()V"⟩, 5), (⟨"LiarClocks$Reader", "place", "()I"⟩, 5), (⟨"LiarClocks$Reader", "readClock", "(I)V"⟩, 5), (⟨"LiarClocks$Reader", "check", "(ZZZI)V"⟩, 5), (⟨"java/lang/Throwable", "fillInStackTrace", "(I)Ljava/lang/Throwable;"⟩, 6), (⟨"LiarClocks$Reader", "numberIn", "(II)I"⟩, 5), (⟨"LiarClocks$Reader", "number", "()I"⟩, 5), (⟨"LiarClocks$Reader", "readLiar", "()V"⟩, 5), (⟨"LiarClocks$Reader", "readStrike", "(I)V"⟩, 5), (⟨"LiarClocks$Reader", "readStep", "(I)V"⟩, 5), (⟨"LiarClocks", "worst", "()I"⟩, 19), (⟨"LiarClocks", "worstOf", "(I)I"⟩, 19), (⟨"LiarClocks", "extremeOf", "(II)I"⟩, 19), (⟨"LiarClocks", "hear", "(I)V"⟩, 19)]
theorem lw_r1 : ∀ q ∈ lw_privs_1, lw_okq q := List.forall_mem_cons.mpr ⟨lw_p0, List.forall_mem_cons.mpr ⟨lw_p1, List.forall_mem_cons.mpr ⟨lw_p2, List.forall_mem_cons.mpr ⟨lw_p3, List.forall_mem_cons.mpr ⟨lw_p4, List.forall_mem_cons.mpr ⟨lw_p5, List.forall_mem_cons.mpr ⟨lw_p6, List.forall_mem_cons.mpr ⟨lw_p7, List.forall_mem_cons.mpr ⟨lw_p8, List.forall_mem_cons.mpr ⟨lw_p9, List.forall_mem_cons.mpr ⟨lw_p10, List.forall_mem_cons.mpr ⟨lw_p11, List.forall_mem_cons.mpr ⟨lw_p12, List.forall_mem_cons.mpr ⟨lw_p13, List.forall_mem_cons.mpr ⟨lw_p14, List.forall_mem_cons.mpr ⟨lw_p15, fun _ h => absurd h List.not_mem_nil⟩⟩⟩⟩⟩⟩⟩⟩⟩⟩⟩⟩⟩⟩⟩⟩
theorem lw_p16 : lw_okq (⟨"LiarClocks", "middle", "(I)I"⟩, 19) := ⟨⟨by decide +kernel, by decide +kernel⟩, lw_t1 (List.mem_of_getElem? (i := 34) rfl), lw_t2 (List.mem_of_getElem? (i := 172) rfl), lw_t2 (List.mem_of_getElem? (i := 173) rfl)⟩
theorem lw_p17 : lw_okq (⟨"LiarClocks", "mayLie", "()I"⟩, 19) := ⟨⟨by decide +kernel, by decide +kernel⟩, lw_t1 (List.mem_of_getElem? (i := 34) rfl), lw_t2 (List.mem_of_getElem? (i := 219) rfl), lw_t2 (List.mem_of_getElem? (i := 220) rfl)⟩
theorem lw_p18 : lw_okq (⟨"LiarClocks", "rungOnes", "()I"⟩, 19) := ⟨⟨by decide +kernel, by decide +kernel⟩, lw_t1 (List.mem_of_getElem? (i := 34) rfl), lw_t2 (List.mem_of_getElem? (i := 224) rfl), lw_t2 (List.mem_of_getElem? (i := 225) rfl)⟩
theorem lw_p19 : lw_okq (⟨"LiarClocks", "judge", "()I"⟩, 19) := ⟨⟨by decide +kernel, by decide +kernel⟩, lw_t1 (List.mem_of_getElem? (i := 34) rfl), lw_t2 (List.mem_of_getElem? (i := 228) rfl), lw_t2 (List.mem_of_getElem? (i := 229) rfl)⟩
theorem lw_p20 : lw_okq (⟨"LiarClocks", "isClock", "(I)Z"⟩, 19) := ⟨⟨by decide +kernel, by decide +kernel⟩, lw_t1 (List.mem_of_getElem? (i := 34) rfl), lw_t2 (List.mem_of_getElem? (i := 232) rfl), lw_t2 (List.mem_of_getElem? (i := 233) rfl)⟩
theorem lw_p21 : lw_okq (⟨"LiarClocks", "wouldBe", "(I)I"⟩, 19) := ⟨⟨by decide +kernel, by decide +kernel⟩, lw_t1 (List.mem_of_getElem? (i := 34) rfl), lw_t3 (List.mem_of_getElem? (i := 3) rfl), lw_t3 (List.mem_of_getElem? (i := 4) rfl)⟩
theorem lw_p22 : lw_okq (⟨"LiarClocks", "middleOf", "(LLiarClocks$House;I)I"⟩, 19) := ⟨⟨by decide +kernel, by decide +kernel⟩, lw_t1 (List.mem_of_getElem? (i := 34) rfl), lw_t3 (List.mem_of_getElem? (i := 8) rfl), lw_t3 (List.mem_of_getElem? (i := 9) rfl)⟩
theorem lw_p23 : lw_okq (⟨"LiarClocks", "arePair", "(II)Z"⟩, 19) := ⟨⟨by decide +kernel, by decide +kernel⟩, lw_t1 (List.mem_of_getElem? (i := 34) rfl), lw_t3 (List.mem_of_getElem? (i := 16) rfl), lw_t3 (List.mem_of_getElem? (i := 17) rfl)⟩
theorem lw_p24 : lw_okq (⟨"LiarClocks", "rank", "(II)I"⟩, 19) := ⟨⟨by decide +kernel, by decide +kernel⟩, lw_t1 (List.mem_of_getElem? (i := 34) rfl), lw_t3 (List.mem_of_getElem? (i := 20) rfl), lw_t3 (List.mem_of_getElem? (i := 21) rfl)⟩
theorem lw_p25 : lw_okq (⟨"LiarClocks", "farthest", "(II)I"⟩, 19) := ⟨⟨by decide +kernel, by decide +kernel⟩, lw_t1 (List.mem_of_getElem? (i := 34) rfl), lw_t3 (List.mem_of_getElem? (i := 24) rfl), lw_t3 (List.mem_of_getElem? (i := 25) rfl)⟩
theorem lw_p26 : lw_okq (⟨"LiarClocks", "offOf", "(I)I"⟩, 19) := ⟨⟨by decide +kernel, by decide +kernel⟩, lw_t1 (List.mem_of_getElem? (i := 34) rfl), lw_t3 (List.mem_of_getElem? (i := 28) rfl), lw_t3 (List.mem_of_getElem? (i := 29) rfl)⟩
theorem lw_p27 : lw_okq (⟨"LiarClocks", "remember", "()V"⟩, 19) := ⟨⟨by decide +kernel, by decide +kernel⟩, lw_t1 (List.mem_of_getElem? (i := 34) rfl), lw_t3 (List.mem_of_getElem? (i := 112) rfl), lw_t3 (List.mem_of_getElem? (i := 113) rfl)⟩
theorem lw_p28 : lw_okq (⟨"LiarClocks$House", "go", "(I)V"⟩, 15) := ⟨⟨by decide +kernel, by decide +kernel⟩, lw_t1 (List.mem_of_getElem? (i := 46) rfl), lw_t3 (List.mem_of_getElem? (i := 120) rfl), lw_t3 (List.mem_of_getElem? (i := 121) rfl)⟩
theorem lw_p29 : lw_okq (⟨"LiarClocks$House", "ring", "()I"⟩, 15) := ⟨⟨by decide +kernel, by decide +kernel⟩, lw_t1 (List.mem_of_getElem? (i := 46) rfl), lw_t3 (List.mem_of_getElem? (i := 124) rfl), lw_t3 (List.mem_of_getElem? (i := 125) rfl)⟩
theorem lw_p30 : lw_okq (⟨"LiarClocks", "roundIn", "(LLiarClocks$House;)V"⟩, 19) := ⟨⟨by decide +kernel, by decide +kernel⟩, lw_t1 (List.mem_of_getElem? (i := 34) rfl), lw_t3 (List.mem_of_getElem? (i := 132) rfl), lw_t3 (List.mem_of_getElem? (i := 133) rfl)⟩
theorem lw_p31 : lw_okq (⟨"LiarClocks", "joinedAt", "(I)I"⟩, 19) := ⟨⟨by decide +kernel, by decide +kernel⟩, lw_t1 (List.mem_of_getElem? (i := 34) rfl), lw_t3 (List.mem_of_getElem? (i := 169) rfl), lw_t3 (List.mem_of_getElem? (i := 170) rfl)⟩
def lw_privs_2 : List (MethodName × Nat) := [(⟨"LiarClocks", "middle", "(I)I"⟩, 19), (⟨"LiarClocks", "mayLie", "()I"⟩, 19), (⟨"LiarClocks", "rungOnes", "()I"⟩, 19), (⟨"LiarClocks", "judge", "()I"⟩, 19), (⟨"LiarClocks", "isClock", "(I)Z"⟩, 19), (⟨"LiarClocks", "wouldBe", "(I)I"⟩, 19), (⟨"LiarClocks", "middleOf", "(LLiarClocks$House;I)I"⟩, 19), (⟨"LiarClocks", "arePair", "(II)Z"⟩, 19), (⟨"LiarClocks", "rank", "(II)I"⟩, 19), (⟨"LiarClocks", "farthest", "(II)I"⟩, 19), (⟨"LiarClocks", "offOf", "(I)I"⟩, 19), (⟨"LiarClocks", "remember", "()V"⟩, 19), (⟨"LiarClocks$House", "go", "(I)V"⟩, 15), (⟨"LiarClocks$House", "ring", "()I"⟩, 15), (⟨"LiarClocks", "roundIn", "(LLiarClocks$House;)V"⟩, 19), (⟨"LiarClocks", "joinedAt", "(I)I"⟩, 19)]
theorem lw_r2 : ∀ q ∈ lw_privs_2, lw_okq q := List.forall_mem_cons.mpr ⟨lw_p16, List.forall_mem_cons.mpr ⟨lw_p17, List.forall_mem_cons.mpr ⟨lw_p18, List.forall_mem_cons.mpr ⟨lw_p19, List.forall_mem_cons.mpr ⟨lw_p20, List.forall_mem_cons.mpr ⟨lw_p21, List.forall_mem_cons.mpr ⟨lw_p22, List.forall_mem_cons.mpr ⟨lw_p23, List.forall_mem_cons.mpr ⟨lw_p24, List.forall_mem_cons.mpr ⟨lw_p25, List.forall_mem_cons.mpr ⟨lw_p26, List.forall_mem_cons.mpr ⟨lw_p27, List.forall_mem_cons.mpr ⟨lw_p28, List.forall_mem_cons.mpr ⟨lw_p29, List.forall_mem_cons.mpr ⟨lw_p30, List.forall_mem_cons.mpr ⟨lw_p31, fun _ h => absurd h List.not_mem_nil⟩⟩⟩⟩⟩⟩⟩⟩⟩⟩⟩⟩⟩⟩⟩⟩
theorem lw_p32 : lw_okq (⟨"LiarClocks", "chance", "()V"⟩, 19) := ⟨⟨by decide +kernel, by decide +kernel⟩, lw_t1 (List.mem_of_getElem? (i := 34) rfl), lw_t3 (List.mem_of_getElem? (i := 190) rfl), lw_t3 (List.mem_of_getElem? (i := 191) rfl)⟩
theorem lw_p33 : lw_okq (⟨"LiarClocks", "draw", "(I)I"⟩, 19) := ⟨⟨by decide +kernel, by decide +kernel⟩, lw_t1 (List.mem_of_getElem? (i := 34) rfl), lw_t3 (List.mem_of_getElem? (i := 194) rfl), lw_t3 (List.mem_of_getElem? (i := 195) rfl)⟩
theorem lw_p34 : lw_okq (⟨"LiarClocksModel", "here", "()I"⟩, 17) := ⟨⟨by decide +kernel, by decide +kernel⟩, lw_t3 (List.mem_of_getElem? (i := 233) rfl), lw_t4 (List.mem_of_getElem? (i := 64) rfl), lw_t4 (List.mem_of_getElem? (i := 65) rfl)⟩
theorem lw_p35 : lw_okq (⟨"LiarClocksModel", "fine", "()Z"⟩, 17) := ⟨⟨by decide +kernel, by decide +kernel⟩, lw_t3 (List.mem_of_getElem? (i := 233) rfl), lw_t4 (List.mem_of_getElem? (i := 68) rfl), lw_t4 (List.mem_of_getElem? (i := 69) rfl)⟩
theorem lw_p36 : lw_okq (⟨"LiarClocksModel", "readClause", "()V"⟩, 17) := ⟨⟨by decide +kernel, by decide +kernel⟩, lw_t3 (List.mem_of_getElem? (i := 233) rfl), lw_t4 (List.mem_of_getElem? (i := 72) rfl), lw_t4 (List.mem_of_getElem? (i := 73) rfl)⟩
theorem lw_p37 : lw_okq (⟨"LiarClocksModel", "readClock", "(I)V"⟩, 17) := ⟨⟨by decide +kernel, by decide +kernel⟩, lw_t3 (List.mem_of_getElem? (i := 233) rfl), lw_t4 (List.mem_of_getElem? (i := 76) rfl), lw_t4 (List.mem_of_getElem? (i := 77) rfl)⟩
theorem lw_p38 : lw_okq (⟨"LiarClocksModel", "fail", "(II)V"⟩, 17) := ⟨⟨by decide +kernel, by decide +kernel⟩, lw_t3 (List.mem_of_getElem? (i := 233) rfl), lw_t4 (List.mem_of_getElem? (i := 80) rfl), lw_t4 (List.mem_of_getElem? (i := 81) rfl)⟩
theorem lw_p39 : lw_okq (⟨"LiarClocksModel", "number", "(II)I"⟩, 17) := ⟨⟨by decide +kernel, by decide +kernel⟩, lw_t3 (List.mem_of_getElem? (i := 233) rfl), lw_t4 (List.mem_of_getElem? (i := 84) rfl), lw_t4 (List.mem_of_getElem? (i := 85) rfl)⟩
theorem lw_p40 : lw_okq (⟨"LiarClocksModel", "readOther", "(II)V"⟩, 17) := ⟨⟨by decide +kernel, by decide +kernel⟩, lw_t3 (List.mem_of_getElem? (i := 233) rfl), lw_t4 (List.mem_of_getElem? (i := 88) rfl), lw_t4 (List.mem_of_getElem? (i := 89) rfl)⟩
theorem lw_p41 : lw_okq (⟨"LiarClocksModel", "copyRow", "(II)V"⟩, 17) := ⟨⟨by decide +kernel, by decide +kernel⟩, lw_t3 (List.mem_of_getElem? (i := 233) rfl), lw_t4 (List.mem_of_getElem? (i := 92) rfl), lw_t4 (List.mem_of_getElem? (i := 93) rfl)⟩
theorem lw_p42 : lw_okq (⟨"LiarClocksModel", "setOf", "(I)I"⟩, 17) := ⟨⟨by decide +kernel, by decide +kernel⟩, lw_t3 (List.mem_of_getElem? (i := 233) rfl), lw_t4 (List.mem_of_getElem? (i := 104) rfl), lw_t4 (List.mem_of_getElem? (i := 105) rfl)⟩
theorem lw_p43 : lw_okq (⟨"LiarClocksModel", "isTrue", "(II)Z"⟩, 17) := ⟨⟨by decide +kernel, by decide +kernel⟩, lw_t3 (List.mem_of_getElem? (i := 233) rfl), lw_t4 (List.mem_of_getElem? (i := 108) rfl), lw_t4 (List.mem_of_getElem? (i := 109) rfl)⟩
theorem lw_p44 : lw_okq (⟨"LiarClocksModel", "apart", "(I)I"⟩, 17) := ⟨⟨by decide +kernel, by decide +kernel⟩, lw_t3 (List.mem_of_getElem? (i := 233) rfl), lw_t4 (List.mem_of_getElem? (i := 112) rfl), lw_t4 (List.mem_of_getElem? (i := 113) rfl)⟩
theorem lw_p45 : lw_okq (⟨"LiarClocksModel", "aim", "(II)I"⟩, 17) := ⟨⟨by decide +kernel, by decide +kernel⟩, lw_t3 (List.mem_of_getElem? (i := 233) rfl), lw_t4 (List.mem_of_getElem? (i := 116) rfl), lw_t4 (List.mem_of_getElem? (i := 117) rfl)⟩
theorem lw_p46 : lw_okq (⟨"LiarClocksModel", "worst", "()I"⟩, 17) := ⟨⟨by decide +kernel, by decide +kernel⟩, lw_t3 (List.mem_of_getElem? (i := 233) rfl), lw_t4 (List.mem_of_getElem? (i := 120) rfl), lw_t4 (List.mem_of_getElem? (i := 121) rfl)⟩
theorem lw_p47 : lw_okq (⟨"LiarClocksModel", "allStruck", "(II)Z"⟩, 17) := ⟨⟨by decide +kernel, by decide +kernel⟩, lw_t3 (List.mem_of_getElem? (i := 233) rfl), lw_t4 (List.mem_of_getElem? (i := 124) rfl), lw_t4 (List.mem_of_getElem? (i := 125) rfl)⟩
def lw_privs_3 : List (MethodName × Nat) := [(⟨"LiarClocks", "chance", "()V"⟩, 19), (⟨"LiarClocks", "draw", "(I)I"⟩, 19), (⟨"LiarClocksModel", "here", "()I"⟩, 17), (⟨"LiarClocksModel", "fine", "()Z"⟩, 17), (⟨"LiarClocksModel", "readClause", "()V"⟩, 17), (⟨"LiarClocksModel", "readClock", "(I)V"⟩, 17), (⟨"LiarClocksModel", "fail", "(II)V"⟩, 17), (⟨"LiarClocksModel", "number", "(II)I"⟩, 17), (⟨"LiarClocksModel", "readOther", "(II)V"⟩, 17), (⟨"LiarClocksModel", "copyRow", "(II)V"⟩, 17), (⟨"LiarClocksModel", "setOf", "(I)I"⟩, 17), (⟨"LiarClocksModel", "isTrue", "(II)Z"⟩, 17), (⟨"LiarClocksModel", "apart", "(I)I"⟩, 17), (⟨"LiarClocksModel", "aim", "(II)I"⟩, 17), (⟨"LiarClocksModel", "worst", "()I"⟩, 17), (⟨"LiarClocksModel", "allStruck", "(II)Z"⟩, 17)]
theorem lw_r3 : ∀ q ∈ lw_privs_3, lw_okq q := List.forall_mem_cons.mpr ⟨lw_p32, List.forall_mem_cons.mpr ⟨lw_p33, List.forall_mem_cons.mpr ⟨lw_p34, List.forall_mem_cons.mpr ⟨lw_p35, List.forall_mem_cons.mpr ⟨lw_p36, List.forall_mem_cons.mpr ⟨lw_p37, List.forall_mem_cons.mpr ⟨lw_p38, List.forall_mem_cons.mpr ⟨lw_p39, List.forall_mem_cons.mpr ⟨lw_p40, List.forall_mem_cons.mpr ⟨lw_p41, List.forall_mem_cons.mpr ⟨lw_p42, List.forall_mem_cons.mpr ⟨lw_p43, List.forall_mem_cons.mpr ⟨lw_p44, List.forall_mem_cons.mpr ⟨lw_p45, List.forall_mem_cons.mpr ⟨lw_p46, List.forall_mem_cons.mpr ⟨lw_p47, fun _ h => absurd h List.not_mem_nil⟩⟩⟩⟩⟩⟩⟩⟩⟩⟩⟩⟩⟩⟩⟩⟩
theorem lw_p48 : lw_okq (⟨"LiarClocksModel", "liars", "()I"⟩, 17) := ⟨⟨by decide +kernel, by decide +kernel⟩, lw_t3 (List.mem_of_getElem? (i := 233) rfl), lw_t4 (List.mem_of_getElem? (i := 128) rfl), lw_t4 (List.mem_of_getElem? (i := 129) rfl)⟩
theorem lw_p49 : lw_okq (⟨"LiarClocksModel", "isLiar", "(II)Z"⟩, 17) := ⟨⟨by decide +kernel, by decide +kernel⟩, lw_t3 (List.mem_of_getElem? (i := 233) rfl), lw_t4 (List.mem_of_getElem? (i := 132) rfl), lw_t4 (List.mem_of_getElem? (i := 133) rfl)⟩
theorem lw_p50 : lw_okq (⟨"LiarClocksModel", "extreme", "(II)I"⟩, 17) := ⟨⟨by decide +kernel, by decide +kernel⟩, lw_t3 (List.mem_of_getElem? (i := 233) rfl), lw_t4 (List.mem_of_getElem? (i := 138) rfl), lw_t4 (List.mem_of_getElem? (i := 139) rfl)⟩
theorem lw_p51 : lw_okq (⟨"LiarClocksModel", "heardOf", "(III)I"⟩, 17) := ⟨⟨by decide +kernel, by decide +kernel⟩, lw_t3 (List.mem_of_getElem? (i := 233) rfl), lw_t4 (List.mem_of_getElem? (i := 142) rfl), lw_t4 (List.mem_of_getElem? (i := 143) rfl)⟩
theorem lw_p52 : lw_okq (⟨"LiarClocksModel", "put", "(II)V"⟩, 17) := ⟨⟨by decide +kernel, by decide +kernel⟩, lw_t3 (List.mem_of_getElem? (i := 233) rfl), lw_t4 (List.mem_of_getElem? (i := 146) rfl), lw_t4 (List.mem_of_getElem? (i := 147) rfl)⟩
theorem lw_p53 : lw_okq (⟨"LiarClocksModel", "middle", "(II)I"⟩, 17) := ⟨⟨by decide +kernel, by decide +kernel⟩, lw_t3 (List.mem_of_getElem? (i := 233) rfl), lw_t4 (List.mem_of_getElem? (i := 150) rfl), lw_t4 (List.mem_of_getElem? (i := 151) rfl)⟩
theorem lw_p54 : lw_okq (⟨"LiarClocksModel", "mayLie", "()I"⟩, 17) := ⟨⟨by decide +kernel, by decide +kernel⟩, lw_t3 (List.mem_of_getElem? (i := 233) rfl), lw_t4 (List.mem_of_getElem? (i := 155) rfl), lw_t4 (List.mem_of_getElem? (i := 156) rfl)⟩
theorem lw_p55 : lw_okq (⟨"LiarClocksModel", "rungSet", "()I"⟩, 17) := ⟨⟨by decide +kernel, by decide +kernel⟩, lw_t3 (List.mem_of_getElem? (i := 233) rfl), lw_t4 (List.mem_of_getElem? (i := 159) rfl), lw_t4 (List.mem_of_getElem? (i := 160) rfl)⟩
theorem lw_p56 : lw_okq (⟨"LiarClocksModel", "wrongEntry", "()I"⟩, 17) := ⟨⟨by decide +kernel, by decide +kernel⟩, lw_t3 (List.mem_of_getElem? (i := 233) rfl), lw_t4 (List.mem_of_getElem? (i := 163) rfl), lw_t4 (List.mem_of_getElem? (i := 164) rfl)⟩
theorem lw_p57 : lw_okq (⟨"LiarClocksModel", "isClock", "(I)Z"⟩, 17) := ⟨⟨by decide +kernel, by decide +kernel⟩, lw_t3 (List.mem_of_getElem? (i := 233) rfl), lw_t4 (List.mem_of_getElem? (i := 167) rfl), lw_t4 (List.mem_of_getElem? (i := 168) rfl)⟩
theorem lw_p58 : lw_okq (⟨"LiarClocksModel", "middleOf", "(II)I"⟩, 17) := ⟨⟨by decide +kernel, by decide +kernel⟩, lw_t3 (List.mem_of_getElem? (i := 233) rfl), lw_t4 (List.mem_of_getElem? (i := 177) rfl), lw_t4 (List.mem_of_getElem? (i := 178) rfl)⟩
theorem lw_p59 : lw_okq (⟨"LiarClocksModel", "arePair", "(II)Z"⟩, 17) := ⟨⟨by decide +kernel, by decide +kernel⟩, lw_t3 (List.mem_of_getElem? (i := 233) rfl), lw_t4 (List.mem_of_getElem? (i := 185) rfl), lw_t4 (List.mem_of_getElem? (i := 186) rfl)⟩
theorem lw_p60 : lw_okq (⟨"LiarClocksModel", "rank", "(II)I"⟩, 17) := ⟨⟨by decide +kernel, by decide +kernel⟩, lw_t3 (List.mem_of_getElem? (i := 233) rfl), lw_t4 (List.mem_of_getElem? (i := 189) rfl), lw_t4 (List.mem_of_getElem? (i := 190) rfl)⟩
theorem lw_p61 : lw_okq (⟨"LiarClocksModel", "farthest", "(II)I"⟩, 17) := ⟨⟨by decide +kernel, by decide +kernel⟩, lw_t3 (List.mem_of_getElem? (i := 233) rfl), lw_t4 (List.mem_of_getElem? (i := 193) rfl), lw_t4 (List.mem_of_getElem? (i := 194) rfl)⟩
theorem lw_p62 : lw_okq (⟨"LiarClocksModel", "remember", "()V"⟩, 17) := ⟨⟨by decide +kernel, by decide +kernel⟩, lw_t3 (List.mem_of_getElem? (i := 233) rfl), lw_t4 (List.mem_of_getElem? (i := 205) rfl), lw_t4 (List.mem_of_getElem? (i := 206) rfl)⟩
theorem lw_p63 : lw_okq (⟨"LiarClocksModel", "tickOne", "()V"⟩, 17) := ⟨⟨by decide +kernel, by decide +kernel⟩, lw_t3 (List.mem_of_getElem? (i := 233) rfl), lw_t4 (List.mem_of_getElem? (i := 209) rfl), lw_t4 (List.mem_of_getElem? (i := 210) rfl)⟩
def lw_privs_4 : List (MethodName × Nat) := [(⟨"LiarClocksModel", "liars", "()I"⟩, 17), (⟨"LiarClocksModel", "isLiar", "(II)Z"⟩, 17), (⟨"LiarClocksModel", "extreme", "(II)I"⟩, 17), (⟨"LiarClocksModel", "heardOf", "(III)I"⟩, 17), (⟨"LiarClocksModel", "put", "(II)V"⟩, 17), (⟨"LiarClocksModel", "middle", "(II)I"⟩, 17), (⟨"LiarClocksModel", "mayLie", "()I"⟩, 17), (⟨"LiarClocksModel", "rungSet", "()I"⟩, 17), (⟨"LiarClocksModel", "wrongEntry", "()I"⟩, 17), (⟨"LiarClocksModel", "isClock", "(I)Z"⟩, 17), (⟨"LiarClocksModel", "middleOf", "(II)I"⟩, 17), (⟨"LiarClocksModel", "arePair", "(II)Z"⟩, 17), (⟨"LiarClocksModel", "rank", "(II)I"⟩, 17), (⟨"LiarClocksModel", "farthest", "(II)I"⟩, 17), (⟨"LiarClocksModel", "remember", "()V"⟩, 17), (⟨"LiarClocksModel", "tickOne", "()V"⟩, 17)]
theorem lw_r4 : ∀ q ∈ lw_privs_4, lw_okq q := List.forall_mem_cons.mpr ⟨lw_p48, List.forall_mem_cons.mpr ⟨lw_p49, List.forall_mem_cons.mpr ⟨lw_p50, List.forall_mem_cons.mpr ⟨lw_p51, List.forall_mem_cons.mpr ⟨lw_p52, List.forall_mem_cons.mpr ⟨lw_p53, List.forall_mem_cons.mpr ⟨lw_p54, List.forall_mem_cons.mpr ⟨lw_p55, List.forall_mem_cons.mpr ⟨lw_p56, List.forall_mem_cons.mpr ⟨lw_p57, List.forall_mem_cons.mpr ⟨lw_p58, List.forall_mem_cons.mpr ⟨lw_p59, List.forall_mem_cons.mpr ⟨lw_p60, List.forall_mem_cons.mpr ⟨lw_p61, List.forall_mem_cons.mpr ⟨lw_p62, List.forall_mem_cons.mpr ⟨lw_p63, fun _ h => absurd h List.not_mem_nil⟩⟩⟩⟩⟩⟩⟩⟩⟩⟩⟩⟩⟩⟩⟩⟩
theorem lw_p64 : lw_okq (⟨"LiarClocksModel", "roundIn", "(I)V"⟩, 17) := ⟨⟨by decide +kernel, by decide +kernel⟩, lw_t3 (List.mem_of_getElem? (i := 233) rfl), lw_t4 (List.mem_of_getElem? (i := 217) rfl), lw_t4 (List.mem_of_getElem? (i := 218) rfl)⟩
theorem lw_p65 : lw_okq (⟨"LiarClocksModel", "manyOf", "(I)I"⟩, 17) := ⟨⟨by decide +kernel, by decide +kernel⟩, lw_t3 (List.mem_of_getElem? (i := 233) rfl), lw_t4 (List.mem_of_getElem? (i := 233) rfl), lw_t4 (List.mem_of_getElem? (i := 234) rfl)⟩
theorem lw_p66 : lw_okq (⟨"LiarClocksModel", "time", "()V"⟩, 17) := ⟨⟨by decide +kernel, by decide +kernel⟩, lw_t3 (List.mem_of_getElem? (i := 233) rfl), lw_t5 (List.mem_of_getElem? (i := 15) rfl), lw_t5 (List.mem_of_getElem? (i := 16) rfl)⟩
theorem lw_p67 : lw_okq (⟨"LiarClocksModel", "draw", "(I)I"⟩, 17) := ⟨⟨by decide +kernel, by decide +kernel⟩, lw_t3 (List.mem_of_getElem? (i := 233) rfl), lw_t5 (List.mem_of_getElem? (i := 19) rfl), lw_t5 (List.mem_of_getElem? (i := 20) rfl)⟩
def lw_privs_5 : List (MethodName × Nat) := [(⟨"LiarClocksModel", "roundIn", "(I)V"⟩, 17), (⟨"LiarClocksModel", "manyOf", "(I)I"⟩, 17), (⟨"LiarClocksModel", "time", "()V"⟩, 17), (⟨"LiarClocksModel", "draw", "(I)I"⟩, 17)]
theorem lw_r5 : ∀ q ∈ lw_privs_5, lw_okq q := List.forall_mem_cons.mpr ⟨lw_p64, List.forall_mem_cons.mpr ⟨lw_p65, List.forall_mem_cons.mpr ⟨lw_p66, List.forall_mem_cons.mpr ⟨lw_p67, fun _ h => absurd h List.not_mem_nil⟩⟩⟩⟩
def lw_privs : List (MethodName × Nat) := lw_privs_1 ++ (lw_privs_2 ++ (lw_privs_3 ++ (lw_privs_4 ++ (lw_privs_5))))
def lw_tbl : List Cond := k2_sels lw_privs ++ tables_1
theorem lw_privs_ok : ∀ q ∈ lw_privs, lw_okq q := by
  show ∀ q ∈ lw_privs_1 ++ (lw_privs_2 ++ (lw_privs_3 ++ (lw_privs_4 ++ (lw_privs_5)))), lw_okq q
  exact List.forall_mem_append.mpr ⟨lw_r1, List.forall_mem_append.mpr ⟨lw_r2, List.forall_mem_append.mpr ⟨lw_r3, List.forall_mem_append.mpr ⟨lw_r4, lw_r5⟩⟩⟩⟩
-- ===== ONE list of words for every method: the tables' words that hold all through a run =====
def lw_all : List Cond := lw_tbl.filter goodWord
/-- a word of the tables by its place: claim/WORDS.tsv -/
theorem lw_w {w : Cond} (i : Nat) (h : lw_tbl[i]? = some w) (g : goodWord w = true) : w ∈ lw_all := List.mem_filter.mpr ⟨List.mem_of_getElem? h, g⟩
theorem lw_all_tbl {w : Cond} (h : w ∈ lw_all) : w ∈ lw_tbl := (List.mem_filter.mp h).1
theorem lw_self : GoodIn lw_all lw_all := fun w h => ⟨h, good_of_word (List.mem_filter.mp h).2⟩
/-- a class's field words, by their places -/
theorem lw_in (ws : List Cond) (ps : List Nat) (hp : ws = ps.filterMap (fun i => lw_tbl[i]?)) (hg : ws.all goodWord = true) : ∀ w ∈ ws, w ∈ lw_all := by
  intro w h
  have h1 := List.all_eq_true.mp hg w h
  rw [hp] at h
  obtain ⟨i, -, hi⟩ := List.mem_filterMap.mp h
  exact lw_w i hi h1
/-- the words of a contract for the method y with code b, L locals, answer r -/
abbrev ws_ (y : MethodName) (b : ByteArray) (L : Nat) (r : Option FieldType) : List Cond := Cond.code y b L r :: lw_all
theorem lw_meth {y : MethodName} {b : ByteArray} {L : Nat} {r : Option FieldType} (h : Cond.code y b L r ∈ lw_all) : GoodIn lw_all (ws_ y b L r) := by
  intro w hw
  rcases List.mem_cons.mp hw with e | e
  · rw [e]
    exact lw_self _ h
  · exact lw_self _ e
theorem lw_app {a c : List Cond} (ha : ∀ w ∈ a, w ∈ lw_all) (hc : GoodIn lw_all c) : GoodIn lw_all (a ++ c) := by
  intro w hw
  rcases List.mem_append.mp hw with e | e
  · exact lw_self w (ha w e)
  · exact hc w e
/-- what a call through an object asks: cwV n hts (lw_V ..) -/
theorem lw_V {own : String} {idx : Nat} {C : String} {y : MethodName} {b : ByteArray} {L : Nat} {r : Option FieldType} (h1 : Cond.methodLink own idx y ∈ lw_all) (h2 : Cond.instanceMethod y ∈ lw_all) (h3 : Cond.selects C y y ∈ lw_all) (h4 : Cond.initialized C ∈ lw_all) (h5 : Cond.code y b L r ∈ lw_all) : GoodIn lw_all (wsV own idx C y (ws_ y b L r)) := by
  refine lw_app ?_ (lw_meth h5)
  intro w hw
  simp only [List.mem_cons, List.not_mem_nil, or_false] at hw
  rcases hw with e | e | e | e
  · rw [e]; exact h1
  · rw [e]; exact h2
  · rw [e]; exact h3
  · rw [e]; exact h4
/-- what a static call asks: va_cwS n hts (lw_S ..) -/
theorem lw_S {own : String} {idx : Nat} {y : MethodName} {b : ByteArray} {L : Nat} {r : Option FieldType} (h1 : Cond.methodLink own idx y ∈ lw_all) (h2 : Cond.static y ∈ lw_all) (h3 : Cond.initialized y.cls ∈ lw_all) (h4 : Cond.code y b L r ∈ lw_all) : GoodIn lw_all (va_wsS own idx y (ws_ y b L r)) := by
  refine lw_app ?_ (lw_meth h4)
  intro w hw
  simp only [List.mem_cons, List.not_mem_nil, or_false] at hw
  rcases hw with e | e | e
  · rw [e]; exact h1
  · rw [e]; exact h2
  · rw [e]; exact h3
/-- the words of a contract for a method WITH HANDLERS (hh: its table) -/
abbrev wsW_ (y : MethodName) (b : ByteArray) (L : Nat) (r : Option FieldType) (hh : List (Nat × Nat × Nat × Nat)) : List Cond := Cond.codeWith y b L r hh :: lw_all
theorem lw_methW {y : MethodName} {b : ByteArray} {L : Nat} {r : Option FieldType} {hh : List (Nat × Nat × Nat × Nat)} (h : Cond.codeWith y b L r hh ∈ lw_all) : GoodIn lw_all (wsW_ y b L r hh) := by
  intro w hw
  rcases List.mem_cons.mp hw with e | e
  · rw [e]
    exact lw_self _ h
  · exact lw_self _ e
/-- any list of words by their places (lw_in), good -/
theorem lw_good {ws : List Cond} (h : ∀ w ∈ ws, w ∈ lw_all) : GoodIn lw_all ws := fun w hw => lw_self w (h w hw)
/-- what a call of a method with handlers asks: vx_cwVW n hts (lw_VW ..), vx_cwSW n hts (lw_SW ..) -/
theorem lw_VW {own : String} {idx : Nat} {C : String} {y : MethodName} {b : ByteArray} {L : Nat} {r : Option FieldType} {hh : List (Nat × Nat × Nat × Nat)} (h1 : Cond.methodLink own idx y ∈ lw_all) (h2 : Cond.instanceMethod y ∈ lw_all) (h3 : Cond.selects C y y ∈ lw_all) (h4 : Cond.initialized C ∈ lw_all) (h5 : Cond.codeWith y b L r hh ∈ lw_all) : GoodIn lw_all (wsV own idx C y (wsW_ y b L r hh)) := by
  refine lw_app ?_ (lw_methW h5)
  intro w hw
  simp only [List.mem_cons, List.not_mem_nil, or_false] at hw
  rcases hw with e | e | e | e
  · rw [e]; exact h1
  · rw [e]; exact h2
  · rw [e]; exact h3
  · rw [e]; exact h4
theorem lw_SW {own : String} {idx : Nat} {y : MethodName} {b : ByteArray} {L : Nat} {r : Option FieldType} {hh : List (Nat × Nat × Nat × Nat)} (h1 : Cond.methodLink own idx y ∈ lw_all) (h2 : Cond.static y ∈ lw_all) (h3 : Cond.initialized y.cls ∈ lw_all) (h4 : Cond.codeWith y b L r hh ∈ lw_all) : GoodIn lw_all (va_wsS own idx y (wsW_ y b L r hh)) := by
  refine lw_app ?_ (lw_methW h4)
  intro w hw
  simp only [List.mem_cons, List.not_mem_nil, or_false] at hw
  rcases hw with e | e | e
  · rw [e]; exact h1
  · rw [e]; exact h2
  · rw [e]; exact h3
/-- a word by its place in its run of the tables -/
theorem lw_at {r : List Cond} (hr : ∀ w ∈ r, w ∈ lw_tbl) {w : Cond} (i : Nat) (h : r[i]? = some w) : w ∈ lw_tbl := hr w (List.mem_of_getElem? h)
theorem lw_g {w : Cond} (h : w ∈ lw_tbl) (g : goodWord w = true) : w ∈ lw_all := List.mem_filter.mpr ⟨h, g⟩
theorem lw_ms : ∀ w ∈ k2_sels lw_privs, w ∈ lw_tbl := fun w h => show w ∈ k2_sels lw_privs ++ tables_1 from List.mem_append_left _ h
theorem lw_m1 : ∀ w ∈ tables_1_1, w ∈ lw_tbl := fun w h => show w ∈ k2_sels lw_privs ++ tables_1 from List.mem_append_right (k2_sels lw_privs) (show w ∈ tables_1 from List.mem_append_left _ h)
theorem lw_m2 : ∀ w ∈ tables_1_2, w ∈ lw_tbl := fun w h => show w ∈ k2_sels lw_privs ++ tables_1 from List.mem_append_right (k2_sels lw_privs) (show w ∈ tables_1 from List.mem_append_right _ (List.mem_append_left _ h))
theorem lw_m3 : ∀ w ∈ tables_1_3, w ∈ lw_tbl := fun w h => show w ∈ k2_sels lw_privs ++ tables_1 from List.mem_append_right (k2_sels lw_privs) (show w ∈ tables_1 from List.mem_append_right _ (List.mem_append_right _ (List.mem_append_left _ h)))
theorem lw_m4 : ∀ w ∈ tables_1_4, w ∈ lw_tbl := fun w h => show w ∈ k2_sels lw_privs ++ tables_1 from List.mem_append_right (k2_sels lw_privs) (show w ∈ tables_1 from List.mem_append_right _ (List.mem_append_right _ (List.mem_append_right _ (List.mem_append_left _ h))))
theorem lw_m5 : ∀ w ∈ tables_1_5, w ∈ lw_tbl := fun w h => show w ∈ k2_sels lw_privs ++ tables_1 from List.mem_append_right (k2_sels lw_privs) (show w ∈ tables_1 from List.mem_append_right _ (List.mem_append_right _ (List.mem_append_right _ (List.mem_append_right _ h))))
theorem qs0 : (Cond.selects "LiarClocks" ⟨"LiarClocks", "readText", "()I"⟩ ⟨"LiarClocks", "readText", "()I"⟩) ∈ lw_all := lw_g (lw_at lw_ms 0 rfl) rfl
theorem qs1 : (Cond.selects "LiarClocks$Reader" ⟨"LiarClocks$Reader", "here", "()I"⟩ ⟨"LiarClocks$Reader", "here", "()I"⟩) ∈ lw_all := lw_g (lw_at lw_ms 1 rfl) rfl
theorem qs2 : (Cond.selects "LiarClocks$Reader" ⟨"LiarClocks$Reader", "clause", "()V"⟩ ⟨"LiarClocks$Reader", "clause", "()V"⟩) ∈ lw_all := lw_g (lw_at lw_ms 2 rfl) rfl
theorem qs3 : (Cond.selects "LiarClocks$Reader" ⟨"LiarClocks$Reader", "place", "()I"⟩ ⟨"LiarClocks$Reader", "place", "()I"⟩) ∈ lw_all := lw_g (lw_at lw_ms 3 rfl) rfl
theorem qs4 : (Cond.selects "LiarClocks$Reader" ⟨"LiarClocks$Reader", "readClock", "(I)V"⟩ ⟨"LiarClocks$Reader", "readClock", "(I)V"⟩) ∈ lw_all := lw_g (lw_at lw_ms 4 rfl) rfl
theorem qs5 : (Cond.selects "LiarClocks$Reader" ⟨"LiarClocks$Reader", "check", "(ZZZI)V"⟩ ⟨"LiarClocks$Reader", "check", "(ZZZI)V"⟩) ∈ lw_all := lw_g (lw_at lw_ms 5 rfl) rfl
theorem qs6 : (Cond.selects "java/lang/Throwable" ⟨"java/lang/Throwable", "fillInStackTrace", "(I)Ljava/lang/Throwable;"⟩ ⟨"java/lang/Throwable", "fillInStackTrace", "(I)Ljava/lang/Throwable;"⟩) ∈ lw_all := lw_g (lw_at lw_ms 6 rfl) rfl
theorem qs7 : (Cond.selects "LiarClocks$Reader" ⟨"LiarClocks$Reader", "numberIn", "(II)I"⟩ ⟨"LiarClocks$Reader", "numberIn", "(II)I"⟩) ∈ lw_all := lw_g (lw_at lw_ms 7 rfl) rfl
theorem qs8 : (Cond.selects "LiarClocks$Reader" ⟨"LiarClocks$Reader", "number", "()I"⟩ ⟨"LiarClocks$Reader", "number", "()I"⟩) ∈ lw_all := lw_g (lw_at lw_ms 8 rfl) rfl
theorem qs9 : (Cond.selects "LiarClocks$Reader" ⟨"LiarClocks$Reader", "readLiar", "()V"⟩ ⟨"LiarClocks$Reader", "readLiar", "()V"⟩) ∈ lw_all := lw_g (lw_at lw_ms 9 rfl) rfl
theorem qs10 : (Cond.selects "LiarClocks$Reader" ⟨"LiarClocks$Reader", "readStrike", "(I)V"⟩ ⟨"LiarClocks$Reader", "readStrike", "(I)V"⟩) ∈ lw_all := lw_g (lw_at lw_ms 10 rfl) rfl
theorem qs11 : (Cond.selects "LiarClocks$Reader" ⟨"LiarClocks$Reader", "readStep", "(I)V"⟩ ⟨"LiarClocks$Reader", "readStep", "(I)V"⟩) ∈ lw_all := lw_g (lw_at lw_ms 11 rfl) rfl
theorem qs12 : (Cond.selects "LiarClocks" ⟨"LiarClocks", "worst", "()I"⟩ ⟨"LiarClocks", "worst", "()I"⟩) ∈ lw_all := lw_g (lw_at lw_ms 12 rfl) rfl
theorem qs13 : (Cond.selects "LiarClocks" ⟨"LiarClocks", "worstOf", "(I)I"⟩ ⟨"LiarClocks", "worstOf", "(I)I"⟩) ∈ lw_all := lw_g (lw_at lw_ms 13 rfl) rfl
theorem qs14 : (Cond.selects "LiarClocks" ⟨"LiarClocks", "extremeOf", "(II)I"⟩ ⟨"LiarClocks", "extremeOf", "(II)I"⟩) ∈ lw_all := lw_g (lw_at lw_ms 14 rfl) rfl
theorem qs15 : (Cond.selects "LiarClocks" ⟨"LiarClocks", "hear", "(I)V"⟩ ⟨"LiarClocks", "hear", "(I)V"⟩) ∈ lw_all := lw_g (lw_at lw_ms 15 rfl) rfl
theorem qs16 : (Cond.selects "LiarClocks" ⟨"LiarClocks", "middle", "(I)I"⟩ ⟨"LiarClocks", "middle", "(I)I"⟩) ∈ lw_all := lw_g (lw_at lw_ms 16 rfl) rfl
theorem qs17 : (Cond.selects "LiarClocks" ⟨"LiarClocks", "mayLie", "()I"⟩ ⟨"LiarClocks", "mayLie", "()I"⟩) ∈ lw_all := lw_g (lw_at lw_ms 17 rfl) rfl
theorem qs18 : (Cond.selects "LiarClocks" ⟨"LiarClocks", "rungOnes", "()I"⟩ ⟨"LiarClocks", "rungOnes", "()I"⟩) ∈ lw_all := lw_g (lw_at lw_ms 18 rfl) rfl
theorem qs19 : (Cond.selects "LiarClocks" ⟨"LiarClocks", "judge", "()I"⟩ ⟨"LiarClocks", "judge", "()I"⟩) ∈ lw_all := lw_g (lw_at lw_ms 19 rfl) rfl
theorem qs20 : (Cond.selects "LiarClocks" ⟨"LiarClocks", "isClock", "(I)Z"⟩ ⟨"LiarClocks", "isClock", "(I)Z"⟩) ∈ lw_all := lw_g (lw_at lw_ms 20 rfl) rfl
theorem qs21 : (Cond.selects "LiarClocks" ⟨"LiarClocks", "wouldBe", "(I)I"⟩ ⟨"LiarClocks", "wouldBe", "(I)I"⟩) ∈ lw_all := lw_g (lw_at lw_ms 21 rfl) rfl
theorem qs22 : (Cond.selects "LiarClocks" ⟨"LiarClocks", "middleOf", "(LLiarClocks$House;I)I"⟩ ⟨"LiarClocks", "middleOf", "(LLiarClocks$House;I)I"⟩) ∈ lw_all := lw_g (lw_at lw_ms 22 rfl) rfl
theorem qs23 : (Cond.selects "LiarClocks" ⟨"LiarClocks", "arePair", "(II)Z"⟩ ⟨"LiarClocks", "arePair", "(II)Z"⟩) ∈ lw_all := lw_g (lw_at lw_ms 23 rfl) rfl
theorem qs24 : (Cond.selects "LiarClocks" ⟨"LiarClocks", "rank", "(II)I"⟩ ⟨"LiarClocks", "rank", "(II)I"⟩) ∈ lw_all := lw_g (lw_at lw_ms 24 rfl) rfl
theorem qs25 : (Cond.selects "LiarClocks" ⟨"LiarClocks", "farthest", "(II)I"⟩ ⟨"LiarClocks", "farthest", "(II)I"⟩) ∈ lw_all := lw_g (lw_at lw_ms 25 rfl) rfl
theorem qs26 : (Cond.selects "LiarClocks" ⟨"LiarClocks", "offOf", "(I)I"⟩ ⟨"LiarClocks", "offOf", "(I)I"⟩) ∈ lw_all := lw_g (lw_at lw_ms 26 rfl) rfl
theorem qs27 : (Cond.selects "LiarClocks" ⟨"LiarClocks", "remember", "()V"⟩ ⟨"LiarClocks", "remember", "()V"⟩) ∈ lw_all := lw_g (lw_at lw_ms 27 rfl) rfl
theorem qs28 : (Cond.selects "LiarClocks$House" ⟨"LiarClocks$House", "go", "(I)V"⟩ ⟨"LiarClocks$House", "go", "(I)V"⟩) ∈ lw_all := lw_g (lw_at lw_ms 28 rfl) rfl
theorem qs29 : (Cond.selects "LiarClocks$House" ⟨"LiarClocks$House", "ring", "()I"⟩ ⟨"LiarClocks$House", "ring", "()I"⟩) ∈ lw_all := lw_g (lw_at lw_ms 29 rfl) rfl
theorem qs30 : (Cond.selects "LiarClocks" ⟨"LiarClocks", "roundIn", "(LLiarClocks$House;)V"⟩ ⟨"LiarClocks", "roundIn", "(LLiarClocks$House;)V"⟩) ∈ lw_all := lw_g (lw_at lw_ms 30 rfl) rfl
theorem qs31 : (Cond.selects "LiarClocks" ⟨"LiarClocks", "joinedAt", "(I)I"⟩ ⟨"LiarClocks", "joinedAt", "(I)I"⟩) ∈ lw_all := lw_g (lw_at lw_ms 31 rfl) rfl
theorem qs32 : (Cond.selects "LiarClocks" ⟨"LiarClocks", "chance", "()V"⟩ ⟨"LiarClocks", "chance", "()V"⟩) ∈ lw_all := lw_g (lw_at lw_ms 32 rfl) rfl
theorem qs33 : (Cond.selects "LiarClocks" ⟨"LiarClocks", "draw", "(I)I"⟩ ⟨"LiarClocks", "draw", "(I)I"⟩) ∈ lw_all := lw_g (lw_at lw_ms 33 rfl) rfl
theorem qs34 : (Cond.selects "LiarClocksModel" ⟨"LiarClocksModel", "here", "()I"⟩ ⟨"LiarClocksModel", "here", "()I"⟩) ∈ lw_all := lw_g (lw_at lw_ms 34 rfl) rfl
theorem qs35 : (Cond.selects "LiarClocksModel" ⟨"LiarClocksModel", "fine", "()Z"⟩ ⟨"LiarClocksModel", "fine", "()Z"⟩) ∈ lw_all := lw_g (lw_at lw_ms 35 rfl) rfl
theorem qs36 : (Cond.selects "LiarClocksModel" ⟨"LiarClocksModel", "readClause", "()V"⟩ ⟨"LiarClocksModel", "readClause", "()V"⟩) ∈ lw_all := lw_g (lw_at lw_ms 36 rfl) rfl
theorem qs37 : (Cond.selects "LiarClocksModel" ⟨"LiarClocksModel", "readClock", "(I)V"⟩ ⟨"LiarClocksModel", "readClock", "(I)V"⟩) ∈ lw_all := lw_g (lw_at lw_ms 37 rfl) rfl
theorem qs38 : (Cond.selects "LiarClocksModel" ⟨"LiarClocksModel", "fail", "(II)V"⟩ ⟨"LiarClocksModel", "fail", "(II)V"⟩) ∈ lw_all := lw_g (lw_at lw_ms 38 rfl) rfl
theorem qs39 : (Cond.selects "LiarClocksModel" ⟨"LiarClocksModel", "number", "(II)I"⟩ ⟨"LiarClocksModel", "number", "(II)I"⟩) ∈ lw_all := lw_g (lw_at lw_ms 39 rfl) rfl
theorem qs40 : (Cond.selects "LiarClocksModel" ⟨"LiarClocksModel", "readOther", "(II)V"⟩ ⟨"LiarClocksModel", "readOther", "(II)V"⟩) ∈ lw_all := lw_g (lw_at lw_ms 40 rfl) rfl
theorem qs41 : (Cond.selects "LiarClocksModel" ⟨"LiarClocksModel", "copyRow", "(II)V"⟩ ⟨"LiarClocksModel", "copyRow", "(II)V"⟩) ∈ lw_all := lw_g (lw_at lw_ms 41 rfl) rfl
theorem qs42 : (Cond.selects "LiarClocksModel" ⟨"LiarClocksModel", "setOf", "(I)I"⟩ ⟨"LiarClocksModel", "setOf", "(I)I"⟩) ∈ lw_all := lw_g (lw_at lw_ms 42 rfl) rfl
theorem qs43 : (Cond.selects "LiarClocksModel" ⟨"LiarClocksModel", "isTrue", "(II)Z"⟩ ⟨"LiarClocksModel", "isTrue", "(II)Z"⟩) ∈ lw_all := lw_g (lw_at lw_ms 43 rfl) rfl
theorem qs44 : (Cond.selects "LiarClocksModel" ⟨"LiarClocksModel", "apart", "(I)I"⟩ ⟨"LiarClocksModel", "apart", "(I)I"⟩) ∈ lw_all := lw_g (lw_at lw_ms 44 rfl) rfl
theorem qs45 : (Cond.selects "LiarClocksModel" ⟨"LiarClocksModel", "aim", "(II)I"⟩ ⟨"LiarClocksModel", "aim", "(II)I"⟩) ∈ lw_all := lw_g (lw_at lw_ms 45 rfl) rfl
theorem qs46 : (Cond.selects "LiarClocksModel" ⟨"LiarClocksModel", "worst", "()I"⟩ ⟨"LiarClocksModel", "worst", "()I"⟩) ∈ lw_all := lw_g (lw_at lw_ms 46 rfl) rfl
theorem qs47 : (Cond.selects "LiarClocksModel" ⟨"LiarClocksModel", "allStruck", "(II)Z"⟩ ⟨"LiarClocksModel", "allStruck", "(II)Z"⟩) ∈ lw_all := lw_g (lw_at lw_ms 47 rfl) rfl
theorem qs48 : (Cond.selects "LiarClocksModel" ⟨"LiarClocksModel", "liars", "()I"⟩ ⟨"LiarClocksModel", "liars", "()I"⟩) ∈ lw_all := lw_g (lw_at lw_ms 48 rfl) rfl
theorem qs49 : (Cond.selects "LiarClocksModel" ⟨"LiarClocksModel", "isLiar", "(II)Z"⟩ ⟨"LiarClocksModel", "isLiar", "(II)Z"⟩) ∈ lw_all := lw_g (lw_at lw_ms 49 rfl) rfl
theorem qs50 : (Cond.selects "LiarClocksModel" ⟨"LiarClocksModel", "extreme", "(II)I"⟩ ⟨"LiarClocksModel", "extreme", "(II)I"⟩) ∈ lw_all := lw_g (lw_at lw_ms 50 rfl) rfl
theorem qs51 : (Cond.selects "LiarClocksModel" ⟨"LiarClocksModel", "heardOf", "(III)I"⟩ ⟨"LiarClocksModel", "heardOf", "(III)I"⟩) ∈ lw_all := lw_g (lw_at lw_ms 51 rfl) rfl
theorem qs52 : (Cond.selects "LiarClocksModel" ⟨"LiarClocksModel", "put", "(II)V"⟩ ⟨"LiarClocksModel", "put", "(II)V"⟩) ∈ lw_all := lw_g (lw_at lw_ms 52 rfl) rfl
theorem qs53 : (Cond.selects "LiarClocksModel" ⟨"LiarClocksModel", "middle", "(II)I"⟩ ⟨"LiarClocksModel", "middle", "(II)I"⟩) ∈ lw_all := lw_g (lw_at lw_ms 53 rfl) rfl
theorem qs54 : (Cond.selects "LiarClocksModel" ⟨"LiarClocksModel", "mayLie", "()I"⟩ ⟨"LiarClocksModel", "mayLie", "()I"⟩) ∈ lw_all := lw_g (lw_at lw_ms 54 rfl) rfl
theorem qs55 : (Cond.selects "LiarClocksModel" ⟨"LiarClocksModel", "rungSet", "()I"⟩ ⟨"LiarClocksModel", "rungSet", "()I"⟩) ∈ lw_all := lw_g (lw_at lw_ms 55 rfl) rfl
theorem qs56 : (Cond.selects "LiarClocksModel" ⟨"LiarClocksModel", "wrongEntry", "()I"⟩ ⟨"LiarClocksModel", "wrongEntry", "()I"⟩) ∈ lw_all := lw_g (lw_at lw_ms 56 rfl) rfl
theorem qs57 : (Cond.selects "LiarClocksModel" ⟨"LiarClocksModel", "isClock", "(I)Z"⟩ ⟨"LiarClocksModel", "isClock", "(I)Z"⟩) ∈ lw_all := lw_g (lw_at lw_ms 57 rfl) rfl
theorem qs58 : (Cond.selects "LiarClocksModel" ⟨"LiarClocksModel", "middleOf", "(II)I"⟩ ⟨"LiarClocksModel", "middleOf", "(II)I"⟩) ∈ lw_all := lw_g (lw_at lw_ms 58 rfl) rfl
theorem qs59 : (Cond.selects "LiarClocksModel" ⟨"LiarClocksModel", "arePair", "(II)Z"⟩ ⟨"LiarClocksModel", "arePair", "(II)Z"⟩) ∈ lw_all := lw_g (lw_at lw_ms 59 rfl) rfl
theorem qs60 : (Cond.selects "LiarClocksModel" ⟨"LiarClocksModel", "rank", "(II)I"⟩ ⟨"LiarClocksModel", "rank", "(II)I"⟩) ∈ lw_all := lw_g (lw_at lw_ms 60 rfl) rfl
theorem qs61 : (Cond.selects "LiarClocksModel" ⟨"LiarClocksModel", "farthest", "(II)I"⟩ ⟨"LiarClocksModel", "farthest", "(II)I"⟩) ∈ lw_all := lw_g (lw_at lw_ms 61 rfl) rfl
theorem qs62 : (Cond.selects "LiarClocksModel" ⟨"LiarClocksModel", "remember", "()V"⟩ ⟨"LiarClocksModel", "remember", "()V"⟩) ∈ lw_all := lw_g (lw_at lw_ms 62 rfl) rfl
theorem qs63 : (Cond.selects "LiarClocksModel" ⟨"LiarClocksModel", "tickOne", "()V"⟩ ⟨"LiarClocksModel", "tickOne", "()V"⟩) ∈ lw_all := lw_g (lw_at lw_ms 63 rfl) rfl
theorem qs64 : (Cond.selects "LiarClocksModel" ⟨"LiarClocksModel", "roundIn", "(I)V"⟩ ⟨"LiarClocksModel", "roundIn", "(I)V"⟩) ∈ lw_all := lw_g (lw_at lw_ms 64 rfl) rfl
theorem qs65 : (Cond.selects "LiarClocksModel" ⟨"LiarClocksModel", "manyOf", "(I)I"⟩ ⟨"LiarClocksModel", "manyOf", "(I)I"⟩) ∈ lw_all := lw_g (lw_at lw_ms 65 rfl) rfl
theorem qs66 : (Cond.selects "LiarClocksModel" ⟨"LiarClocksModel", "time", "()V"⟩ ⟨"LiarClocksModel", "time", "()V"⟩) ∈ lw_all := lw_g (lw_at lw_ms 66 rfl) rfl
theorem qs67 : (Cond.selects "LiarClocksModel" ⟨"LiarClocksModel", "draw", "(I)I"⟩ ⟨"LiarClocksModel", "draw", "(I)I"⟩) ∈ lw_all := lw_g (lw_at lw_ms 67 rfl) rfl
