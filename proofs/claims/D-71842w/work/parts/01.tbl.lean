-- ===== PART A: goes FIRST, ahead of the names: the tables' words, and 'selects' of the private methods out of them =====
/-- a private method of a class that the tables say can be made, by its rows of tables_1 -/
def lw_okq (q : MethodName × Nat) : Prop := (q.1.cls ≠ "java/lang/invoke/MethodHandle" ∧ q.1.cls ≠ "java/lang/invoke/VarHandle") ∧ Cond.instantiable q.1.cls q.2 ∈ tables_1 ∧ Cond.privateMethod q.1 ∈ tables_1 ∧ Cond.instanceMethod q.1 ∈ tables_1
set_option maxRecDepth 100000
theorem lw_t1 {w : Cond} (h : w ∈ tables_1_1) : w ∈ tables_1 := List.mem_append_left _ h
theorem lw_t2 {w : Cond} (h : w ∈ tables_1_2) : w ∈ tables_1 := List.mem_append_right _ (List.mem_append_left _ h)
theorem lw_t3 {w : Cond} (h : w ∈ tables_1_3) : w ∈ tables_1 := List.mem_append_right _ (List.mem_append_right _ (List.mem_append_left _ h))
theorem lw_t4 {w : Cond} (h : w ∈ tables_1_4) : w ∈ tables_1 := List.mem_append_right _ (List.mem_append_right _ (List.mem_append_right _ (List.mem_append_left _ h)))
theorem lw_t5 {w : Cond} (h : w ∈ tables_1_5) : w ∈ tables_1 := List.mem_append_right _ (List.mem_append_right _ (List.mem_append_right _ (List.mem_append_right _ h)))
theorem lw_p0 : lw_okq (⟨"CrowdedBins", "empties", "()V"⟩, 19) := ⟨⟨by decide +kernel, by decide +kernel⟩, lw_t1 (List.mem_of_getElem? (i := 16) rfl), lw_t1 (List.mem_of_getElem? (i := 67) rfl), lw_t1 (List.mem_of_getElem? (i := 68) rfl)⟩
theorem lw_p1 : lw_okq (⟨"CrowdedBins", "bad", "()I"⟩, 19) := ⟨⟨by decide +kernel, by decide +kernel⟩, lw_t1 (List.mem_of_getElem? (i := 16) rfl), lw_t1 (List.mem_of_getElem? (i := 169) rfl), lw_t1 (List.mem_of_getElem? (i := 170) rfl)⟩
theorem lw_p2 : lw_okq (⟨"CrowdedBins", "refuses", "(II)I"⟩, 19) := ⟨⟨by decide +kernel, by decide +kernel⟩, lw_t1 (List.mem_of_getElem? (i := 16) rfl), lw_t1 (List.mem_of_getElem? (i := 173) rfl), lw_t1 (List.mem_of_getElem? (i := 174) rfl)⟩
theorem lw_p3 : lw_okq (⟨"CrowdedBins", "found", "(I)LCrowdedBins$Entry;"⟩, 19) := ⟨⟨by decide +kernel, by decide +kernel⟩, lw_t1 (List.mem_of_getElem? (i := 16) rfl), lw_t1 (List.mem_of_getElem? (i := 177) rfl), lw_t1 (List.mem_of_getElem? (i := 178) rfl)⟩
theorem lw_p4 : lw_okq (⟨"CrowdedBins", "binWith", "(I)LCrowdedBins$Bin;"⟩, 19) := ⟨⟨by decide +kernel, by decide +kernel⟩, lw_t1 (List.mem_of_getElem? (i := 16) rfl), lw_t1 (List.mem_of_getElem? (i := 181) rfl), lw_t1 (List.mem_of_getElem? (i := 182) rfl)⟩
theorem lw_p5 : lw_okq (⟨"CrowdedBins", "hashOf", "(I)I"⟩, 19) := ⟨⟨by decide +kernel, by decide +kernel⟩, lw_t1 (List.mem_of_getElem? (i := 16) rfl), lw_t1 (List.mem_of_getElem? (i := 185) rfl), lw_t1 (List.mem_of_getElem? (i := 186) rfl)⟩
theorem lw_p6 : lw_okq (⟨"CrowdedBins", "binOf", "(I)I"⟩, 19) := ⟨⟨by decide +kernel, by decide +kernel⟩, lw_t1 (List.mem_of_getElem? (i := 16) rfl), lw_t1 (List.mem_of_getElem? (i := 190) rfl), lw_t1 (List.mem_of_getElem? (i := 191) rfl)⟩
theorem lw_p7 : lw_okq (⟨"CrowdedBins", "isFull", "()Z"⟩, 19) := ⟨⟨by decide +kernel, by decide +kernel⟩, lw_t1 (List.mem_of_getElem? (i := 16) rfl), lw_t1 (List.mem_of_getElem? (i := 213) rfl), lw_t1 (List.mem_of_getElem? (i := 214) rfl)⟩
theorem lw_p8 : lw_okq (⟨"CrowdedBins", "leaves", "()V"⟩, 19) := ⟨⟨by decide +kernel, by decide +kernel⟩, lw_t1 (List.mem_of_getElem? (i := 16) rfl), lw_t1 (List.mem_of_getElem? (i := 217) rfl), lw_t1 (List.mem_of_getElem? (i := 218) rfl)⟩
theorem lw_p9 : lw_okq (⟨"CrowdedBins", "state", "()LCrowdedBins$State;"⟩, 19) := ⟨⟨by decide +kernel, by decide +kernel⟩, lw_t1 (List.mem_of_getElem? (i := 16) rfl), lw_t1 (List.mem_of_getElem? (i := 221) rfl), lw_t1 (List.mem_of_getElem? (i := 222) rfl)⟩
theorem lw_p10 : lw_okq (⟨"CrowdedBins", "comesNew", "(II)V"⟩, 19) := ⟨⟨by decide +kernel, by decide +kernel⟩, lw_t1 (List.mem_of_getElem? (i := 16) rfl), lw_t2 (List.mem_of_getElem? (i := 26) rfl), lw_t2 (List.mem_of_getElem? (i := 27) rfl)⟩
theorem lw_p11 : lw_okq (⟨"CrowdedBins", "links", "(LCrowdedBins$Entry;)V"⟩, 19) := ⟨⟨by decide +kernel, by decide +kernel⟩, lw_t1 (List.mem_of_getElem? (i := 16) rfl), lw_t2 (List.mem_of_getElem? (i := 85) rfl), lw_t2 (List.mem_of_getElem? (i := 86) rfl)⟩
theorem lw_p12 : lw_okq (⟨"CrowdedBins", "comesIn", "(LCrowdedBins$Entry;I)V"⟩, 19) := ⟨⟨by decide +kernel, by decide +kernel⟩, lw_t1 (List.mem_of_getElem? (i := 16) rfl), lw_t2 (List.mem_of_getElem? (i := 89) rfl), lw_t2 (List.mem_of_getElem? (i := 90) rfl)⟩
theorem lw_p13 : lw_okq (⟨"CrowdedBins", "grows", "()V"⟩, 19) := ⟨⟨by decide +kernel, by decide +kernel⟩, lw_t1 (List.mem_of_getElem? (i := 16) rfl), lw_t2 (List.mem_of_getElem? (i := 113) rfl), lw_t2 (List.mem_of_getElem? (i := 114) rfl)⟩
theorem lw_p14 : lw_okq (⟨"CrowdedBins", "leavesOne", "(LCrowdedBins$Entry;)V"⟩, 19) := ⟨⟨by decide +kernel, by decide +kernel⟩, lw_t1 (List.mem_of_getElem? (i := 16) rfl), lw_t2 (List.mem_of_getElem? (i := 146) rfl), lw_t2 (List.mem_of_getElem? (i := 147) rfl)⟩
theorem lw_p15 : lw_okq (⟨"CrowdedBins", "unlinks", "(LCrowdedBins$Entry;)V"⟩, 19) := ⟨⟨by decide +kernel, by decide +kernel⟩, lw_t1 (List.mem_of_getElem? (i := 16) rfl), lw_t2 (List.mem_of_getElem? (i := 150) rfl), lw_t2 (List.mem_of_getElem? (i := 151) rfl)⟩
def lw_privs_1 : List (MethodName × Nat) := [(⟨"CrowdedBins", "empties", "()V"⟩, 19), (⟨"CrowdedBins", "bad", "()I"⟩, 19), (⟨"CrowdedBins", "refuses", "(II)I"⟩, 19), (⟨"CrowdedBins", "found", "(I)LCrowdedBins$Entry;"⟩, 19), (⟨"CrowdedBins", "binWith", "(I)LCrowdedBins$Bin;"⟩, 19), (⟨"CrowdedBins", "hashOf", "(I)I"⟩, 19), (⟨"CrowdedBins", "binOf", "(I)I"⟩, 19), (⟨"CrowdedBins", "isFull", "()Z"⟩, 19), (⟨"CrowdedBins", "leaves", "()V"⟩, 19), (⟨"CrowdedBins", "state", "()LCrowdedBins$State;"⟩, 19), (⟨"CrowdedBins", "comesNew", "(II)V"⟩, 19), (⟨"CrowdedBins", "links", "(LCrowdedBins$Entry;)V"⟩, 19), (⟨"CrowdedBins", "comesIn", "(LCrowdedBins$Entry;I)V"⟩, 19), (⟨"CrowdedBins", "grows", "()V"⟩, 19), (⟨"CrowdedBins", "leavesOne", "(LCrowdedBins$Entry;)V"⟩, 19), (⟨"CrowdedBins", "unlinks", "(LCrowdedBins$Entry;)V"⟩, 19)]
theorem lw_r1 : ∀ q ∈ lw_privs_1, lw_okq q := List.forall_mem_cons.mpr ⟨lw_p0, List.forall_mem_cons.mpr ⟨lw_p1, List.forall_mem_cons.mpr ⟨lw_p2, List.forall_mem_cons.mpr ⟨lw_p3, List.forall_mem_cons.mpr ⟨lw_p4, List.forall_mem_cons.mpr ⟨lw_p5, List.forall_mem_cons.mpr ⟨lw_p6, List.forall_mem_cons.mpr ⟨lw_p7, List.forall_mem_cons.mpr ⟨lw_p8, List.forall_mem_cons.mpr ⟨lw_p9, List.forall_mem_cons.mpr ⟨lw_p10, List.forall_mem_cons.mpr ⟨lw_p11, List.forall_mem_cons.mpr ⟨lw_p12, List.forall_mem_cons.mpr ⟨lw_p13, List.forall_mem_cons.mpr ⟨lw_p14, List.forall_mem_cons.mpr ⟨lw_p15, fun _ h => absurd h List.not_mem_nil⟩⟩⟩⟩⟩⟩⟩⟩⟩⟩⟩⟩⟩⟩⟩⟩
theorem lw_p16 : lw_okq (⟨"CrowdedBins", "goesOut", "(LCrowdedBins$Entry;)V"⟩, 19) := ⟨⟨by decide +kernel, by decide +kernel⟩, lw_t1 (List.mem_of_getElem? (i := 16) rfl), lw_t2 (List.mem_of_getElem? (i := 154) rfl), lw_t2 (List.mem_of_getElem? (i := 155) rfl)⟩
theorem lw_p17 : lw_okq (⟨"CrowdedBins", "moves", "(LCrowdedBins$Entry;)V"⟩, 19) := ⟨⟨by decide +kernel, by decide +kernel⟩, lw_t1 (List.mem_of_getElem? (i := 16) rfl), lw_t2 (List.mem_of_getElem? (i := 173) rfl), lw_t2 (List.mem_of_getElem? (i := 174) rfl)⟩
theorem lw_p18 : lw_okq (⟨"CrowdedBins", "isBin", "(I)Z"⟩, 19) := ⟨⟨by decide +kernel, by decide +kernel⟩, lw_t1 (List.mem_of_getElem? (i := 16) rfl), lw_t2 (List.mem_of_getElem? (i := 235) rfl), lw_t2 (List.mem_of_getElem? (i := 236) rfl)⟩
theorem lw_p19 : lw_okq (⟨"CrowdedBins", "about", "(LCrowdedBins$Bin;I)I"⟩, 19) := ⟨⟨by decide +kernel, by decide +kernel⟩, lw_t1 (List.mem_of_getElem? (i := 16) rfl), lw_t3 (List.mem_of_getElem? (i := 0) rfl), lw_t3 (List.mem_of_getElem? (i := 1) rfl)⟩
theorem lw_p20 : lw_okq (⟨"CrowdedBins", "nodeOf", "(LCrowdedBins$Bin;LCrowdedBins$Entry;I)I"⟩, 19) := ⟨⟨by decide +kernel, by decide +kernel⟩, lw_t1 (List.mem_of_getElem? (i := 16) rfl), lw_t3 (List.mem_of_getElem? (i := 34) rfl), lw_t3 (List.mem_of_getElem? (i := 35) rfl)⟩
theorem lw_p21 : lw_okq (⟨"CrowdedBins", "no", "()I"⟩, 19) := ⟨⟨by decide +kernel, by decide +kernel⟩, lw_t1 (List.mem_of_getElem? (i := 16) rfl), lw_t3 (List.mem_of_getElem? (i := 42) rfl), lw_t3 (List.mem_of_getElem? (i := 43) rfl)⟩
theorem lw_p22 : lw_okq (⟨"CrowdedBins", "counted", "(I)I"⟩, 19) := ⟨⟨by decide +kernel, by decide +kernel⟩, lw_t1 (List.mem_of_getElem? (i := 16) rfl), lw_t3 (List.mem_of_getElem? (i := 51) rfl), lw_t3 (List.mem_of_getElem? (i := 52) rfl)⟩
theorem lw_p23 : lw_okq (⟨"CrowdedBins$Way$3", "from", "(LCrowdedBins;I)LCrowdedBins$Entry;"⟩, 3) := ⟨⟨by decide +kernel, by decide +kernel⟩, lw_t3 (List.mem_of_getElem? (i := 80) rfl), lw_t3 (List.mem_of_getElem? (i := 78) rfl), lw_t3 (List.mem_of_getElem? (i := 79) rfl)⟩
theorem lw_p24 : lw_okq (⟨"CrowdedBins", "isOpen", "(I)Z"⟩, 19) := ⟨⟨by decide +kernel, by decide +kernel⟩, lw_t1 (List.mem_of_getElem? (i := 16) rfl), lw_t3 (List.mem_of_getElem? (i := 88) rfl), lw_t3 (List.mem_of_getElem? (i := 89) rfl)⟩
theorem lw_p25 : lw_okq (⟨"CrowdedBins", "late", "()I"⟩, 19) := ⟨⟨by decide +kernel, by decide +kernel⟩, lw_t1 (List.mem_of_getElem? (i := 16) rfl), lw_t3 (List.mem_of_getElem? (i := 92) rfl), lw_t3 (List.mem_of_getElem? (i := 93) rfl)⟩
theorem lw_p26 : lw_okq (⟨"CrowdedBins", "yet", "(LCrowdedBins$Cursor;)I"⟩, 19) := ⟨⟨by decide +kernel, by decide +kernel⟩, lw_t1 (List.mem_of_getElem? (i := 16) rfl), lw_t3 (List.mem_of_getElem? (i := 117) rfl), lw_t3 (List.mem_of_getElem? (i := 118) rfl)⟩
theorem lw_p27 : lw_okq (⟨"CrowdedBins$Reader", "order", "(Z)I"⟩, 2) := ⟨⟨by decide +kernel, by decide +kernel⟩, lw_t1 (List.mem_of_getElem? (i := 52) rfl), lw_t3 (List.mem_of_getElem? (i := 146) rfl), lw_t3 (List.mem_of_getElem? (i := 147) rfl)⟩
theorem lw_p28 : lw_okq (⟨"CrowdedBins$Reader", "here", "()I"⟩, 2) := ⟨⟨by decide +kernel, by decide +kernel⟩, lw_t1 (List.mem_of_getElem? (i := 52) rfl), lw_t3 (List.mem_of_getElem? (i := 150) rfl), lw_t3 (List.mem_of_getElem? (i := 151) rfl)⟩
theorem lw_p29 : lw_okq (⟨"java/lang/Throwable", "fillInStackTrace", "(I)Ljava/lang/Throwable;"⟩, 6) := ⟨⟨by decide +kernel, by decide +kernel⟩, lw_t3 (List.mem_of_getElem? (i := 188) rfl), lw_t3 (List.mem_of_getElem? (i := 186) rfl), lw_t3 (List.mem_of_getElem? (i := 187) rfl)⟩
theorem lw_p30 : lw_okq (⟨"CrowdedBins$Reader", "number", "()I"⟩, 2) := ⟨⟨by decide +kernel, by decide +kernel⟩, lw_t1 (List.mem_of_getElem? (i := 52) rfl), lw_t3 (List.mem_of_getElem? (i := 217) rfl), lw_t3 (List.mem_of_getElem? (i := 218) rfl)⟩
theorem lw_p31 : lw_okq (⟨"CrowdedBins$Reader", "isFigure", "()Z"⟩, 2) := ⟨⟨by decide +kernel, by decide +kernel⟩, lw_t1 (List.mem_of_getElem? (i := 52) rfl), lw_t3 (List.mem_of_getElem? (i := 221) rfl), lw_t3 (List.mem_of_getElem? (i := 222) rfl)⟩
def lw_privs_2 : List (MethodName × Nat) := [(⟨"CrowdedBins", "goesOut", "(LCrowdedBins$Entry;)V"⟩, 19), (⟨"CrowdedBins", "moves", "(LCrowdedBins$Entry;)V"⟩, 19), (⟨"CrowdedBins", "isBin", "(I)Z"⟩, 19), (⟨"CrowdedBins", "about", "(LCrowdedBins$Bin;I)I"⟩, 19), (⟨"CrowdedBins", "nodeOf", "(LCrowdedBins$Bin;LCrowdedBins$Entry;I)I"⟩, 19), (⟨"CrowdedBins", "no", "()I"⟩, 19), (⟨"CrowdedBins", "counted", "(I)I"⟩, 19), (⟨"CrowdedBins$Way$3", "from", "(LCrowdedBins;I)LCrowdedBins$Entry;"⟩, 3), (⟨"CrowdedBins", "isOpen", "(I)Z"⟩, 19), (⟨"CrowdedBins", "late", "()I"⟩, 19), (⟨"CrowdedBins", "yet", "(LCrowdedBins$Cursor;)I"⟩, 19), (⟨"CrowdedBins$Reader", "order", "(Z)I"⟩, 2), (⟨"CrowdedBins$Reader", "here", "()I"⟩, 2), (⟨"java/lang/Throwable", "fillInStackTrace", "(I)Ljava/lang/Throwable;"⟩, 6), (⟨"CrowdedBins$Reader", "number", "()I"⟩, 2), (⟨"CrowdedBins$Reader", "isFigure", "()Z"⟩, 2)]
theorem lw_r2 : ∀ q ∈ lw_privs_2, lw_okq q := List.forall_mem_cons.mpr ⟨lw_p16, List.forall_mem_cons.mpr ⟨lw_p17, List.forall_mem_cons.mpr ⟨lw_p18, List.forall_mem_cons.mpr ⟨lw_p19, List.forall_mem_cons.mpr ⟨lw_p20, List.forall_mem_cons.mpr ⟨lw_p21, List.forall_mem_cons.mpr ⟨lw_p22, List.forall_mem_cons.mpr ⟨lw_p23, List.forall_mem_cons.mpr ⟨lw_p24, List.forall_mem_cons.mpr ⟨lw_p25, List.forall_mem_cons.mpr ⟨lw_p26, List.forall_mem_cons.mpr ⟨lw_p27, List.forall_mem_cons.mpr ⟨lw_p28, List.forall_mem_cons.mpr ⟨lw_p29, List.forall_mem_cons.mpr ⟨lw_p30, List.forall_mem_cons.mpr ⟨lw_p31, fun _ h => absurd h List.not_mem_nil⟩⟩⟩⟩⟩⟩⟩⟩⟩⟩⟩⟩⟩⟩⟩⟩
theorem lw_p32 : lw_okq (⟨"CrowdedBins", "takes", "(LCrowdedBins$State;)V"⟩, 19) := ⟨⟨by decide +kernel, by decide +kernel⟩, lw_t1 (List.mem_of_getElem? (i := 16) rfl), lw_t3 (List.mem_of_getElem? (i := 236) rfl), lw_t3 (List.mem_of_getElem? (i := 237) rfl)⟩
theorem lw_p33 : lw_okq (⟨"CrowdedBins", "ordered", "(I)LCrowdedBins$Entry;"⟩, 19) := ⟨⟨by decide +kernel, by decide +kernel⟩, lw_t1 (List.mem_of_getElem? (i := 16) rfl), lw_t4 (List.mem_of_getElem? (i := 0) rfl), lw_t4 (List.mem_of_getElem? (i := 1) rfl)⟩
theorem lw_p34 : lw_okq (⟨"CrowdedBins", "toldOf", "(I)I"⟩, 19) := ⟨⟨by decide +kernel, by decide +kernel⟩, lw_t1 (List.mem_of_getElem? (i := 16) rfl), lw_t4 (List.mem_of_getElem? (i := 9) rfl), lw_t4 (List.mem_of_getElem? (i := 10) rfl)⟩
theorem lw_p35 : lw_okq (⟨"CrowdedBins", "openSet", "()I"⟩, 19) := ⟨⟨by decide +kernel, by decide +kernel⟩, lw_t1 (List.mem_of_getElem? (i := 16) rfl), lw_t4 (List.mem_of_getElem? (i := 13) rfl), lw_t4 (List.mem_of_getElem? (i := 14) rfl)⟩
theorem lw_p36 : lw_okq (⟨"CrowdedBinsModel", "mayPut", "(II)Z"⟩, 20) := ⟨⟨by decide +kernel, by decide +kernel⟩, lw_t4 (List.mem_of_getElem? (i := 23) rfl), lw_t4 (List.mem_of_getElem? (i := 94) rfl), lw_t4 (List.mem_of_getElem? (i := 95) rfl)⟩
theorem lw_p37 : lw_okq (⟨"CrowdedBinsModel", "placeOf", "(I)I"⟩, 20) := ⟨⟨by decide +kernel, by decide +kernel⟩, lw_t4 (List.mem_of_getElem? (i := 23) rfl), lw_t4 (List.mem_of_getElem? (i := 105) rfl), lw_t4 (List.mem_of_getElem? (i := 106) rfl)⟩
theorem lw_p38 : lw_okq (⟨"CrowdedBinsModel", "isFull", "()Z"⟩, 20) := ⟨⟨by decide +kernel, by decide +kernel⟩, lw_t4 (List.mem_of_getElem? (i := 23) rfl), lw_t4 (List.mem_of_getElem? (i := 109) rfl), lw_t4 (List.mem_of_getElem? (i := 110) rfl)⟩
theorem lw_p39 : lw_okq (⟨"CrowdedBinsModel", "putRefused", "(II)I"⟩, 20) := ⟨⟨by decide +kernel, by decide +kernel⟩, lw_t4 (List.mem_of_getElem? (i := 23) rfl), lw_t4 (List.mem_of_getElem? (i := 113) rfl), lw_t4 (List.mem_of_getElem? (i := 114) rfl)⟩
theorem lw_p40 : lw_okq (⟨"CrowdedBinsModel", "refuses", "(I)I"⟩, 20) := ⟨⟨by decide +kernel, by decide +kernel⟩, lw_t4 (List.mem_of_getElem? (i := 23) rfl), lw_t4 (List.mem_of_getElem? (i := 117) rfl), lw_t4 (List.mem_of_getElem? (i := 118) rfl)⟩
theorem lw_p41 : lw_okq (⟨"CrowdedBinsModel", "aside", "()V"⟩, 20) := ⟨⟨by decide +kernel, by decide +kernel⟩, lw_t4 (List.mem_of_getElem? (i := 23) rfl), lw_t4 (List.mem_of_getElem? (i := 121) rfl), lw_t4 (List.mem_of_getElem? (i := 122) rfl)⟩
theorem lw_p42 : lw_okq (⟨"CrowdedBinsModel", "putsNow", "(II)I"⟩, 20) := ⟨⟨by decide +kernel, by decide +kernel⟩, lw_t4 (List.mem_of_getElem? (i := 23) rfl), lw_t4 (List.mem_of_getElem? (i := 125) rfl), lw_t4 (List.mem_of_getElem? (i := 126) rfl)⟩
theorem lw_p43 : lw_okq (⟨"CrowdedBinsModel", "comes", "(II)V"⟩, 20) := ⟨⟨by decide +kernel, by decide +kernel⟩, lw_t4 (List.mem_of_getElem? (i := 23) rfl), lw_t4 (List.mem_of_getElem? (i := 129) rfl), lw_t4 (List.mem_of_getElem? (i := 130) rfl)⟩
theorem lw_p44 : lw_okq (⟨"CrowdedBinsModel", "binOf", "(I)I"⟩, 20) := ⟨⟨by decide +kernel, by decide +kernel⟩, lw_t4 (List.mem_of_getElem? (i := 23) rfl), lw_t4 (List.mem_of_getElem? (i := 133) rfl), lw_t4 (List.mem_of_getElem? (i := 134) rfl)⟩
theorem lw_p45 : lw_okq (⟨"CrowdedBinsModel", "hashOf", "(I)I"⟩, 20) := ⟨⟨by decide +kernel, by decide +kernel⟩, lw_t4 (List.mem_of_getElem? (i := 23) rfl), lw_t4 (List.mem_of_getElem? (i := 137) rfl), lw_t4 (List.mem_of_getElem? (i := 138) rfl)⟩
theorem lw_p46 : lw_okq (⟨"CrowdedBinsModel", "fits", "(II)V"⟩, 20) := ⟨⟨by decide +kernel, by decide +kernel⟩, lw_t4 (List.mem_of_getElem? (i := 23) rfl), lw_t4 (List.mem_of_getElem? (i := 142) rfl), lw_t4 (List.mem_of_getElem? (i := 143) rfl)⟩
theorem lw_p47 : lw_okq (⟨"CrowdedBinsModel", "isTree", "(I)Z"⟩, 20) := ⟨⟨by decide +kernel, by decide +kernel⟩, lw_t4 (List.mem_of_getElem? (i := 23) rfl), lw_t4 (List.mem_of_getElem? (i := 146) rfl), lw_t4 (List.mem_of_getElem? (i := 147) rfl)⟩
def lw_privs_3 : List (MethodName × Nat) := [(⟨"CrowdedBins", "takes", "(LCrowdedBins$State;)V"⟩, 19), (⟨"CrowdedBins", "ordered", "(I)LCrowdedBins$Entry;"⟩, 19), (⟨"CrowdedBins", "toldOf", "(I)I"⟩, 19), (⟨"CrowdedBins", "openSet", "()I"⟩, 19), (⟨"CrowdedBinsModel", "mayPut", "(II)Z"⟩, 20), (⟨"CrowdedBinsModel", "placeOf", "(I)I"⟩, 20), (⟨"CrowdedBinsModel", "isFull", "()Z"⟩, 20), (⟨"CrowdedBinsModel", "putRefused", "(II)I"⟩, 20), (⟨"CrowdedBinsModel", "refuses", "(I)I"⟩, 20), (⟨"CrowdedBinsModel", "aside", "()V"⟩, 20), (⟨"CrowdedBinsModel", "putsNow", "(II)I"⟩, 20), (⟨"CrowdedBinsModel", "comes", "(II)V"⟩, 20), (⟨"CrowdedBinsModel", "binOf", "(I)I"⟩, 20), (⟨"CrowdedBinsModel", "hashOf", "(I)I"⟩, 20), (⟨"CrowdedBinsModel", "fits", "(II)V"⟩, 20), (⟨"CrowdedBinsModel", "isTree", "(I)Z"⟩, 20)]
theorem lw_r3 : ∀ q ∈ lw_privs_3, lw_okq q := List.forall_mem_cons.mpr ⟨lw_p32, List.forall_mem_cons.mpr ⟨lw_p33, List.forall_mem_cons.mpr ⟨lw_p34, List.forall_mem_cons.mpr ⟨lw_p35, List.forall_mem_cons.mpr ⟨lw_p36, List.forall_mem_cons.mpr ⟨lw_p37, List.forall_mem_cons.mpr ⟨lw_p38, List.forall_mem_cons.mpr ⟨lw_p39, List.forall_mem_cons.mpr ⟨lw_p40, List.forall_mem_cons.mpr ⟨lw_p41, List.forall_mem_cons.mpr ⟨lw_p42, List.forall_mem_cons.mpr ⟨lw_p43, List.forall_mem_cons.mpr ⟨lw_p44, List.forall_mem_cons.mpr ⟨lw_p45, List.forall_mem_cons.mpr ⟨lw_p46, List.forall_mem_cons.mpr ⟨lw_p47, fun _ h => absurd h List.not_mem_nil⟩⟩⟩⟩⟩⟩⟩⟩⟩⟩⟩⟩⟩⟩⟩⟩
theorem lw_p48 : lw_okq (⟨"CrowdedBinsModel", "manyIn", "(I)I"⟩, 20) := ⟨⟨by decide +kernel, by decide +kernel⟩, lw_t4 (List.mem_of_getElem? (i := 23) rfl), lw_t4 (List.mem_of_getElem? (i := 150) rfl), lw_t4 (List.mem_of_getElem? (i := 151) rfl)⟩
theorem lw_p49 : lw_okq (⟨"CrowdedBinsModel", "grows", "()V"⟩, 20) := ⟨⟨by decide +kernel, by decide +kernel⟩, lw_t4 (List.mem_of_getElem? (i := 23) rfl), lw_t4 (List.mem_of_getElem? (i := 154) rfl), lw_t4 (List.mem_of_getElem? (i := 155) rfl)⟩
theorem lw_p50 : lw_okq (⟨"CrowdedBinsModel", "goes", "(I)V"⟩, 20) := ⟨⟨by decide +kernel, by decide +kernel⟩, lw_t4 (List.mem_of_getElem? (i := 23) rfl), lw_t4 (List.mem_of_getElem? (i := 158) rfl), lw_t4 (List.mem_of_getElem? (i := 159) rfl)⟩
theorem lw_p51 : lw_okq (⟨"CrowdedBinsModel", "moves", "(I)V"⟩, 20) := ⟨⟨by decide +kernel, by decide +kernel⟩, lw_t4 (List.mem_of_getElem? (i := 23) rfl), lw_t4 (List.mem_of_getElem? (i := 162) rfl), lw_t4 (List.mem_of_getElem? (i := 163) rfl)⟩
theorem lw_p52 : lw_okq (⟨"CrowdedBinsModel", "isLast", "(I)Z"⟩, 20) := ⟨⟨by decide +kernel, by decide +kernel⟩, lw_t4 (List.mem_of_getElem? (i := 23) rfl), lw_t4 (List.mem_of_getElem? (i := 166) rfl), lw_t4 (List.mem_of_getElem? (i := 167) rfl)⟩
theorem lw_p53 : lw_okq (⟨"CrowdedBinsModel", "keeps", "()V"⟩, 20) := ⟨⟨by decide +kernel, by decide +kernel⟩, lw_t4 (List.mem_of_getElem? (i := 23) rfl), lw_t4 (List.mem_of_getElem? (i := 170) rfl), lw_t4 (List.mem_of_getElem? (i := 171) rfl)⟩
theorem lw_p54 : lw_okq (⟨"CrowdedBinsModel", "getsNow", "(I)I"⟩, 20) := ⟨⟨by decide +kernel, by decide +kernel⟩, lw_t4 (List.mem_of_getElem? (i := 23) rfl), lw_t4 (List.mem_of_getElem? (i := 178) rfl), lw_t4 (List.mem_of_getElem? (i := 179) rfl)⟩
theorem lw_p55 : lw_okq (⟨"CrowdedBinsModel", "removesNow", "(I)I"⟩, 20) := ⟨⟨by decide +kernel, by decide +kernel⟩, lw_t4 (List.mem_of_getElem? (i := 23) rfl), lw_t4 (List.mem_of_getElem? (i := 190) rfl), lw_t4 (List.mem_of_getElem? (i := 191) rfl)⟩
theorem lw_p56 : lw_okq (⟨"CrowdedBinsModel", "clearsNow", "()I"⟩, 20) := ⟨⟨by decide +kernel, by decide +kernel⟩, lw_t4 (List.mem_of_getElem? (i := 23) rfl), lw_t4 (List.mem_of_getElem? (i := 202) rfl), lw_t4 (List.mem_of_getElem? (i := 203) rfl)⟩
theorem lw_p57 : lw_okq (⟨"CrowdedBinsModel", "empties", "()V"⟩, 20) := ⟨⟨by decide +kernel, by decide +kernel⟩, lw_t4 (List.mem_of_getElem? (i := 23) rfl), lw_t4 (List.mem_of_getElem? (i := 206) rfl), lw_t4 (List.mem_of_getElem? (i := 207) rfl)⟩
theorem lw_p58 : lw_okq (⟨"CrowdedBinsModel", "stepsTo", "(I)I"⟩, 20) := ⟨⟨by decide +kernel, by decide +kernel⟩, lw_t4 (List.mem_of_getElem? (i := 23) rfl), lw_t4 (List.mem_of_getElem? (i := 226) rfl), lw_t4 (List.mem_of_getElem? (i := 227) rfl)⟩
theorem lw_p59 : lw_okq (⟨"CrowdedBinsModel", "descends", "(II)I"⟩, 20) := ⟨⟨by decide +kernel, by decide +kernel⟩, lw_t4 (List.mem_of_getElem? (i := 23) rfl), lw_t4 (List.mem_of_getElem? (i := 230) rfl), lw_t4 (List.mem_of_getElem? (i := 231) rfl)⟩
theorem lw_p60 : lw_okq (⟨"CrowdedBinsModel", "inOrder", "(I)V"⟩, 20) := ⟨⟨by decide +kernel, by decide +kernel⟩, lw_t4 (List.mem_of_getElem? (i := 23) rfl), lw_t4 (List.mem_of_getElem? (i := 234) rfl), lw_t4 (List.mem_of_getElem? (i := 235) rfl)⟩
theorem lw_p61 : lw_okq (⟨"CrowdedBinsModel", "holds", "(I)V"⟩, 20) := ⟨⟨by decide +kernel, by decide +kernel⟩, lw_t4 (List.mem_of_getElem? (i := 23) rfl), lw_t4 (List.mem_of_getElem? (i := 238) rfl), lw_t4 (List.mem_of_getElem? (i := 239) rfl)⟩
theorem lw_p62 : lw_okq (⟨"CrowdedBinsModel", "isAhead", "(II)Z"⟩, 20) := ⟨⟨by decide +kernel, by decide +kernel⟩, lw_t4 (List.mem_of_getElem? (i := 23) rfl), lw_t5 (List.mem_of_getElem? (i := 2) rfl), lw_t5 (List.mem_of_getElem? (i := 3) rfl)⟩
theorem lw_p63 : lw_okq (⟨"CrowdedBinsModel", "rootOf", "(II)I"⟩, 20) := ⟨⟨by decide +kernel, by decide +kernel⟩, lw_t4 (List.mem_of_getElem? (i := 23) rfl), lw_t5 (List.mem_of_getElem? (i := 6) rfl), lw_t5 (List.mem_of_getElem? (i := 7) rfl)⟩
def lw_privs_4 : List (MethodName × Nat) := [(⟨"CrowdedBinsModel", "manyIn", "(I)I"⟩, 20), (⟨"CrowdedBinsModel", "grows", "()V"⟩, 20), (⟨"CrowdedBinsModel", "goes", "(I)V"⟩, 20), (⟨"CrowdedBinsModel", "moves", "(I)V"⟩, 20), (⟨"CrowdedBinsModel", "isLast", "(I)Z"⟩, 20), (⟨"CrowdedBinsModel", "keeps", "()V"⟩, 20), (⟨"CrowdedBinsModel", "getsNow", "(I)I"⟩, 20), (⟨"CrowdedBinsModel", "removesNow", "(I)I"⟩, 20), (⟨"CrowdedBinsModel", "clearsNow", "()I"⟩, 20), (⟨"CrowdedBinsModel", "empties", "()V"⟩, 20), (⟨"CrowdedBinsModel", "stepsTo", "(I)I"⟩, 20), (⟨"CrowdedBinsModel", "descends", "(II)I"⟩, 20), (⟨"CrowdedBinsModel", "inOrder", "(I)V"⟩, 20), (⟨"CrowdedBinsModel", "holds", "(I)V"⟩, 20), (⟨"CrowdedBinsModel", "isAhead", "(II)Z"⟩, 20), (⟨"CrowdedBinsModel", "rootOf", "(II)I"⟩, 20)]
theorem lw_r4 : ∀ q ∈ lw_privs_4, lw_okq q := List.forall_mem_cons.mpr ⟨lw_p48, List.forall_mem_cons.mpr ⟨lw_p49, List.forall_mem_cons.mpr ⟨lw_p50, List.forall_mem_cons.mpr ⟨lw_p51, List.forall_mem_cons.mpr ⟨lw_p52, List.forall_mem_cons.mpr ⟨lw_p53, List.forall_mem_cons.mpr ⟨lw_p54, List.forall_mem_cons.mpr ⟨lw_p55, List.forall_mem_cons.mpr ⟨lw_p56, List.forall_mem_cons.mpr ⟨lw_p57, List.forall_mem_cons.mpr ⟨lw_p58, List.forall_mem_cons.mpr ⟨lw_p59, List.forall_mem_cons.mpr ⟨lw_p60, List.forall_mem_cons.mpr ⟨lw_p61, List.forall_mem_cons.mpr ⟨lw_p62, List.forall_mem_cons.mpr ⟨lw_p63, fun _ h => absurd h List.not_mem_nil⟩⟩⟩⟩⟩⟩⟩⟩⟩⟩⟩⟩⟩⟩⟩⟩
theorem lw_p64 : lw_okq (⟨"CrowdedBinsModel", "binFact", "(II)I"⟩, 20) := ⟨⟨by decide +kernel, by decide +kernel⟩, lw_t4 (List.mem_of_getElem? (i := 23) rfl), lw_t5 (List.mem_of_getElem? (i := 23) rfl), lw_t5 (List.mem_of_getElem? (i := 24) rfl)⟩
theorem lw_p65 : lw_okq (⟨"CrowdedBinsModel", "keyAt", "(I)I"⟩, 20) := ⟨⟨by decide +kernel, by decide +kernel⟩, lw_t4 (List.mem_of_getElem? (i := 23) rfl), lw_t5 (List.mem_of_getElem? (i := 27) rfl), lw_t5 (List.mem_of_getElem? (i := 28) rfl)⟩
theorem lw_p66 : lw_okq (⟨"CrowdedBinsModel", "deepest", "(I)I"⟩, 20) := ⟨⟨by decide +kernel, by decide +kernel⟩, lw_t4 (List.mem_of_getElem? (i := 23) rfl), lw_t5 (List.mem_of_getElem? (i := 31) rfl), lw_t5 (List.mem_of_getElem? (i := 32) rfl)⟩
theorem lw_p67 : lw_okq (⟨"CrowdedBinsModel", "rowAt", "(II)I"⟩, 20) := ⟨⟨by decide +kernel, by decide +kernel⟩, lw_t4 (List.mem_of_getElem? (i := 23) rfl), lw_t5 (List.mem_of_getElem? (i := 39) rfl), lw_t5 (List.mem_of_getElem? (i := 40) rfl)⟩
theorem lw_p68 : lw_okq (⟨"CrowdedBinsModel", "nodeFact", "(II)I"⟩, 20) := ⟨⟨by decide +kernel, by decide +kernel⟩, lw_t4 (List.mem_of_getElem? (i := 23) rfl), lw_t5 (List.mem_of_getElem? (i := 47) rfl), lw_t5 (List.mem_of_getElem? (i := 48) rfl)⟩
theorem lw_p69 : lw_okq (⟨"CrowdedBinsModel", "countOf", "(I)I"⟩, 20) := ⟨⟨by decide +kernel, by decide +kernel⟩, lw_t4 (List.mem_of_getElem? (i := 23) rfl), lw_t5 (List.mem_of_getElem? (i := 55) rfl), lw_t5 (List.mem_of_getElem? (i := 56) rfl)⟩
theorem lw_p70 : lw_okq (⟨"CrowdedBinsModel", "keyOrNone", "(II)I"⟩, 20) := ⟨⟨by decide +kernel, by decide +kernel⟩, lw_t4 (List.mem_of_getElem? (i := 23) rfl), lw_t5 (List.mem_of_getElem? (i := 66) rfl), lw_t5 (List.mem_of_getElem? (i := 67) rfl)⟩
theorem lw_p71 : lw_okq (⟨"CrowdedBinsModel", "keyBy", "(II)I"⟩, 20) := ⟨⟨by decide +kernel, by decide +kernel⟩, lw_t4 (List.mem_of_getElem? (i := 23) rfl), lw_t5 (List.mem_of_getElem? (i := 70) rfl), lw_t5 (List.mem_of_getElem? (i := 71) rfl)⟩
theorem lw_p72 : lw_okq (⟨"CrowdedBinsModel", "lacks", "(I)I"⟩, 20) := ⟨⟨by decide +kernel, by decide +kernel⟩, lw_t4 (List.mem_of_getElem? (i := 23) rfl), lw_t5 (List.mem_of_getElem? (i := 78) rfl), lw_t5 (List.mem_of_getElem? (i := 79) rfl)⟩
theorem lw_p73 : lw_okq (⟨"CrowdedBinsModel", "placeBy", "(II)I"⟩, 20) := ⟨⟨by decide +kernel, by decide +kernel⟩, lw_t4 (List.mem_of_getElem? (i := 23) rfl), lw_t5 (List.mem_of_getElem? (i := 82) rfl), lw_t5 (List.mem_of_getElem? (i := 83) rfl)⟩
theorem lw_p74 : lw_okq (⟨"CrowdedBinsModel", "leftOf", "(I)I"⟩, 20) := ⟨⟨by decide +kernel, by decide +kernel⟩, lw_t4 (List.mem_of_getElem? (i := 23) rfl), lw_t5 (List.mem_of_getElem? (i := 94) rfl), lw_t5 (List.mem_of_getElem? (i := 95) rfl)⟩
theorem lw_p75 : lw_okq (⟨"CrowdedBinsModel", "work", "(Z)I"⟩, 20) := ⟨⟨by decide +kernel, by decide +kernel⟩, lw_t4 (List.mem_of_getElem? (i := 23) rfl), lw_t5 (List.mem_of_getElem? (i := 114) rfl), lw_t5 (List.mem_of_getElem? (i := 115) rfl)⟩
theorem lw_p76 : lw_okq (⟨"CrowdedBinsModel", "here", "()I"⟩, 20) := ⟨⟨by decide +kernel, by decide +kernel⟩, lw_t4 (List.mem_of_getElem? (i := 23) rfl), lw_t5 (List.mem_of_getElem? (i := 118) rfl), lw_t5 (List.mem_of_getElem? (i := 119) rfl)⟩
theorem lw_p77 : lw_okq (⟨"CrowdedBinsModel", "isNumber", "()Z"⟩, 20) := ⟨⟨by decide +kernel, by decide +kernel⟩, lw_t4 (List.mem_of_getElem? (i := 23) rfl), lw_t5 (List.mem_of_getElem? (i := 122) rfl), lw_t5 (List.mem_of_getElem? (i := 123) rfl)⟩
theorem lw_p78 : lw_okq (⟨"CrowdedBinsModel", "isFigure", "()Z"⟩, 20) := ⟨⟨by decide +kernel, by decide +kernel⟩, lw_t4 (List.mem_of_getElem? (i := 23) rfl), lw_t5 (List.mem_of_getElem? (i := 126) rfl), lw_t5 (List.mem_of_getElem? (i := 127) rfl)⟩
theorem lw_p79 : lw_okq (⟨"CrowdedBinsModel", "toldOf", "(I)I"⟩, 20) := ⟨⟨by decide +kernel, by decide +kernel⟩, lw_t4 (List.mem_of_getElem? (i := 23) rfl), lw_t5 (List.mem_of_getElem? (i := 138) rfl), lw_t5 (List.mem_of_getElem? (i := 139) rfl)⟩
def lw_privs_5 : List (MethodName × Nat) := [(⟨"CrowdedBinsModel", "binFact", "(II)I"⟩, 20), (⟨"CrowdedBinsModel", "keyAt", "(I)I"⟩, 20), (⟨"CrowdedBinsModel", "deepest", "(I)I"⟩, 20), (⟨"CrowdedBinsModel", "rowAt", "(II)I"⟩, 20), (⟨"CrowdedBinsModel", "nodeFact", "(II)I"⟩, 20), (⟨"CrowdedBinsModel", "countOf", "(I)I"⟩, 20), (⟨"CrowdedBinsModel", "keyOrNone", "(II)I"⟩, 20), (⟨"CrowdedBinsModel", "keyBy", "(II)I"⟩, 20), (⟨"CrowdedBinsModel", "lacks", "(I)I"⟩, 20), (⟨"CrowdedBinsModel", "placeBy", "(II)I"⟩, 20), (⟨"CrowdedBinsModel", "leftOf", "(I)I"⟩, 20), (⟨"CrowdedBinsModel", "work", "(Z)I"⟩, 20), (⟨"CrowdedBinsModel", "here", "()I"⟩, 20), (⟨"CrowdedBinsModel", "isNumber", "()Z"⟩, 20), (⟨"CrowdedBinsModel", "isFigure", "()Z"⟩, 20), (⟨"CrowdedBinsModel", "toldOf", "(I)I"⟩, 20)]
theorem lw_r5 : ∀ q ∈ lw_privs_5, lw_okq q := List.forall_mem_cons.mpr ⟨lw_p64, List.forall_mem_cons.mpr ⟨lw_p65, List.forall_mem_cons.mpr ⟨lw_p66, List.forall_mem_cons.mpr ⟨lw_p67, List.forall_mem_cons.mpr ⟨lw_p68, List.forall_mem_cons.mpr ⟨lw_p69, List.forall_mem_cons.mpr ⟨lw_p70, List.forall_mem_cons.mpr ⟨lw_p71, List.forall_mem_cons.mpr ⟨lw_p72, List.forall_mem_cons.mpr ⟨lw_p73, List.forall_mem_cons.mpr ⟨lw_p74, List.forall_mem_cons.mpr ⟨lw_p75, List.forall_mem_cons.mpr ⟨lw_p76, List.forall_mem_cons.mpr ⟨lw_p77, List.forall_mem_cons.mpr ⟨lw_p78, List.forall_mem_cons.mpr ⟨lw_p79, fun _ h => absurd h List.not_mem_nil⟩⟩⟩⟩⟩⟩⟩⟩⟩⟩⟩⟩⟩⟩⟩⟩
def lw_privs : List (MethodName × Nat) := lw_privs_1 ++ (lw_privs_2 ++ (lw_privs_3 ++ (lw_privs_4 ++ (lw_privs_5))))
def lw_tbl : List Cond := k2_sels lw_privs ++ tables_1
theorem lw_privs_ok : ∀ q ∈ lw_privs, lw_okq q := by
  show ∀ q ∈ lw_privs_1 ++ (lw_privs_2 ++ (lw_privs_3 ++ (lw_privs_4 ++ (lw_privs_5)))), lw_okq q
  exact List.forall_mem_append.mpr ⟨lw_r1, List.forall_mem_append.mpr ⟨lw_r2, List.forall_mem_append.mpr ⟨lw_r3, List.forall_mem_append.mpr ⟨lw_r4, lw_r5⟩⟩⟩⟩
-- ===== ONE list of words for every method: the tables' words that hold all through a run =====
def lw_all : List Cond := lw_tbl.filter goodWord
/-- a word of the tables by its place: claim/WORDS.tsv -/
theorem lw_w {w : Cond} (i : Nat) (h : lw_tbl[i]? = some w) (g : goodWord w = true) : w ∈ lw_all := List.mem_filter.mpr ⟨List.mem_of_getElem? h, g⟩
theorem lw_all_tbl {w : Cond} (h : w ∈ lw_all) : w ∈ lw_tbl := (List.mem_filter.mp h).1
theorem lw_self : GoodIn lw_all lw_all := fun w h => ⟨h, good_of_word (List.mem_filter.mp h).2⟩
/-- a class's field words, by their places -/
theorem lw_in (ws : List Cond) (ps : List Nat) (hp : ws = ps.filterMap (fun i => lw_tbl[i]?)) (hg : ws.all goodWord = true) : ∀ w ∈ ws, w ∈ lw_all := by
  intro w h
  have h1 := List.all_eq_true.mp hg w h
  rw [hp] at h
  obtain ⟨i, -, hi⟩ := List.mem_filterMap.mp h
  exact lw_w i hi h1
/-- the words of a contract for the method y with code b, L locals, answer r -/
abbrev ws_ (y : MethodName) (b : ByteArray) (L : Nat) (r : Option FieldType) : List Cond := Cond.code y b L r :: lw_all
theorem lw_meth {y : MethodName} {b : ByteArray} {L : Nat} {r : Option FieldType} (h : Cond.code y b L r ∈ lw_all) : GoodIn lw_all (ws_ y b L r) := by
  intro w hw
  rcases List.mem_cons.mp hw with e | e
  · rw [e]
    exact lw_self _ h
  · exact lw_self _ e
theorem lw_app {a c : List Cond} (ha : ∀ w ∈ a, w ∈ lw_all) (hc : GoodIn lw_all c) : GoodIn lw_all (a ++ c) := by
  intro w hw
  rcases List.mem_append.mp hw with e | e
  · exact lw_self w (ha w e)
  · exact hc w e
/-- what a call through an object asks: cwV n hts (lw_V ..) -/
theorem lw_V {own : String} {idx : Nat} {C : String} {y : MethodName} {b : ByteArray} {L : Nat} {r : Option FieldType} (h1 : Cond.methodLink own idx y ∈ lw_all) (h2 : Cond.instanceMethod y ∈ lw_all) (h3 : Cond.selects C y y ∈ lw_all) (h4 : Cond.initialized C ∈ lw_all) (h5 : Cond.code y b L r ∈ lw_all) : GoodIn lw_all (wsV own idx C y (ws_ y b L r)) := by
  refine lw_app ?_ (lw_meth h5)
  intro w hw
  simp only [List.mem_cons, List.not_mem_nil, or_false] at hw
  rcases hw with e | e | e | e
  · rw [e]; exact h1
  · rw [e]; exact h2
  · rw [e]; exact h3
  · rw [e]; exact h4
/-- what a static call asks: va_cwS n hts (lw_S ..) -/
theorem lw_S {own : String} {idx : Nat} {y : MethodName} {b : ByteArray} {L : Nat} {r : Option FieldType} (h1 : Cond.methodLink own idx y ∈ lw_all) (h2 : Cond.static y ∈ lw_all) (h3 : Cond.initialized y.cls ∈ lw_all) (h4 : Cond.code y b L r ∈ lw_all) : GoodIn lw_all (va_wsS own idx y (ws_ y b L r)) := by
  refine lw_app ?_ (lw_meth h4)
  intro w hw
  simp only [List.mem_cons, List.not_mem_nil, or_false] at hw
  rcases hw with e | e | e
  · rw [e]; exact h1
  · rw [e]; exact h2
  · rw [e]; exact h3
/-- the words of a contract for a method WITH HANDLERS (hh: its table) -/
abbrev wsW_ (y : MethodName) (b : ByteArray) (L : Nat) (r : Option FieldType) (hh : List (Nat × Nat × Nat × Nat)) : List Cond := Cond.codeWith y b L r hh :: lw_all
theorem lw_methW {y : MethodName} {b : ByteArray} {L : Nat} {r : Option FieldType} {hh : List (Nat × Nat × Nat × Nat)} (h : Cond.codeWith y b L r hh ∈ lw_all) : GoodIn lw_all (wsW_ y b L r hh) := by
  intro w hw
  rcases List.mem_cons.mp hw with e | e
  · rw [e]
    exact lw_self _ h
  · exact lw_self _ e
/-- any list of words by their places (lw_in), good -/
theorem lw_good {ws : List Cond} (h : ∀ w ∈ ws, w ∈ lw_all) : GoodIn lw_all ws := fun w hw => lw_self w (h w hw)
/-- what a call of a method with handlers asks: vx_cwVW n hts (lw_VW ..), vx_cwSW n hts (lw_SW ..) -/
theorem lw_VW {own : String} {idx : Nat} {C : String} {y : MethodName} {b : ByteArray} {L : Nat} {r : Option FieldType} {hh : List (Nat × Nat × Nat × Nat)} (h1 : Cond.methodLink own idx y ∈ lw_all) (h2 : Cond.instanceMethod y ∈ lw_all) (h3 : Cond.selects C y y ∈ lw_all) (h4 : Cond.initialized C ∈ lw_all) (h5 : Cond.codeWith y b L r hh ∈ lw_all) : GoodIn lw_all (wsV own idx C y (wsW_ y b L r hh)) := by
  refine lw_app ?_ (lw_methW h5)
  intro w hw
  simp only [List.mem_cons, List.not_mem_nil, or_false] at hw
  rcases hw with e | e | e | e
  · rw [e]; exact h1
  · rw [e]; exact h2
  · rw [e]; exact h3
  · rw [e]; exact h4
theorem lw_SW {own : String} {idx : Nat} {y : MethodName} {b : ByteArray} {L : Nat} {r : Option FieldType} {hh : List (Nat × Nat × Nat × Nat)} (h1 : Cond.methodLink own idx y ∈ lw_all) (h2 : Cond.static y ∈ lw_all) (h3 : Cond.initialized y.cls ∈ lw_all) (h4 : Cond.codeWith y b L r hh ∈ lw_all) : GoodIn lw_all (va_wsS own idx y (wsW_ y b L r hh)) := by
  refine lw_app ?_ (lw_methW h4)
  intro w hw
  simp only [List.mem_cons, List.not_mem_nil, or_false] at hw
  rcases hw with e | e | e
  · rw [e]; exact h1
  · rw [e]; exact h2
  · rw [e]; exact h3
/-- a word by its place in its run of the tables -/
theorem lw_at {r : List Cond} (hr : ∀ w ∈ r, w ∈ lw_tbl) {w : Cond} (i : Nat) (h : r[i]? = some w) : w ∈ lw_tbl := hr w (List.mem_of_getElem? h)
theorem lw_g {w : Cond} (h : w ∈ lw_tbl) (g : goodWord w = true) : w ∈ lw_all := List.mem_filter.mpr ⟨h, g⟩
theorem lw_ms : ∀ w ∈ k2_sels lw_privs, w ∈ lw_tbl := fun w h => show w ∈ k2_sels lw_privs ++ tables_1 from List.mem_append_left _ h
theorem lw_m1 : ∀ w ∈ tables_1_1, w ∈ lw_tbl := fun w h => show w ∈ k2_sels lw_privs ++ tables_1 from List.mem_append_right (k2_sels lw_privs) (show w ∈ tables_1 from List.mem_append_left _ h)
theorem lw_m2 : ∀ w ∈ tables_1_2, w ∈ lw_tbl := fun w h => show w ∈ k2_sels lw_privs ++ tables_1 from List.mem_append_right (k2_sels lw_privs) (show w ∈ tables_1 from List.mem_append_right _ (List.mem_append_left _ h))
theorem lw_m3 : ∀ w ∈ tables_1_3, w ∈ lw_tbl := fun w h => show w ∈ k2_sels lw_privs ++ tables_1 from List.mem_append_right (k2_sels lw_privs) (show w ∈ tables_1 from List.mem_append_right _ (List.mem_append_right _ (List.mem_append_left _ h)))
theorem lw_m4 : ∀ w ∈ tables_1_4, w ∈ lw_tbl := fun w h => show w ∈ k2_sels lw_privs ++ tables_1 from List.mem_append_right (k2_sels lw_privs) (show w ∈ tables_1 from List.mem_append_right _ (List.mem_append_right _ (List.mem_append_right _ (List.mem_append_left _ h))))
theorem lw_m5 : ∀ w ∈ tables_1_5, w ∈ lw_tbl := fun w h => show w ∈ k2_sels lw_privs ++ tables_1 from List.mem_append_right (k2_sels lw_privs) (show w ∈ tables_1 from List.mem_append_right _ (List.mem_append_right _ (List.mem_append_right _ (List.mem_append_right _ h))))
theorem qs0 : (Cond.selects "CrowdedBins" ⟨"CrowdedBins", "empties", "()V"⟩ ⟨"CrowdedBins", "empties", "()V"⟩) ∈ lw_all := lw_g (lw_at lw_ms 0 rfl) rfl
theorem qs1 : (Cond.selects "CrowdedBins" ⟨"CrowdedBins", "bad", "()I"⟩ ⟨"CrowdedBins", "bad", "()I"⟩) ∈ lw_all := lw_g (lw_at lw_ms 1 rfl) rfl
theorem qs2 : (Cond.selects "CrowdedBins" ⟨"CrowdedBins", "refuses", "(II)I"⟩ ⟨"CrowdedBins", "refuses", "(II)I"⟩) ∈ lw_all := lw_g (lw_at lw_ms 2 rfl) rfl
theorem qs3 : (Cond.selects "CrowdedBins" ⟨"CrowdedBins", "found", "(I)LCrowdedBins$Entry;"⟩ ⟨"CrowdedBins", "found", "(I)LCrowdedBins$Entry;"⟩) ∈ lw_all := lw_g (lw_at lw_ms 3 rfl) rfl
theorem qs4 : (Cond.selects "CrowdedBins" ⟨"CrowdedBins", "binWith", "(I)LCrowdedBins$Bin;"⟩ ⟨"CrowdedBins", "binWith", "(I)LCrowdedBins$Bin;"⟩) ∈ lw_all := lw_g (lw_at lw_ms 4 rfl) rfl
theorem qs5 : (Cond.selects "CrowdedBins" ⟨"CrowdedBins", "hashOf", "(I)I"⟩ ⟨"CrowdedBins", "hashOf", "(I)I"⟩) ∈ lw_all := lw_g (lw_at lw_ms 5 rfl) rfl
theorem qs6 : (Cond.selects "CrowdedBins" ⟨"CrowdedBins", "binOf", "(I)I"⟩ ⟨"CrowdedBins", "binOf", "(I)I"⟩) ∈ lw_all := lw_g (lw_at lw_ms 6 rfl) rfl
theorem qs7 : (Cond.selects "CrowdedBins" ⟨"CrowdedBins", "isFull", "()Z"⟩ ⟨"CrowdedBins", "isFull", "()Z"⟩) ∈ lw_all := lw_g (lw_at lw_ms 7 rfl) rfl
theorem qs8 : (Cond.selects "CrowdedBins" ⟨"CrowdedBins", "leaves", "()V"⟩ ⟨"CrowdedBins", "leaves", "()V"⟩) ∈ lw_all := lw_g (lw_at lw_ms 8 rfl) rfl
theorem qs9 : (Cond.selects "CrowdedBins" ⟨"CrowdedBins", "state", "()LCrowdedBins$State;"⟩ ⟨"CrowdedBins", "state", "()LCrowdedBins$State;"⟩) ∈ lw_all := lw_g (lw_at lw_ms 9 rfl) rfl
theorem qs10 : (Cond.selects "CrowdedBins" ⟨"CrowdedBins", "comesNew", "(II)V"⟩ ⟨"CrowdedBins", "comesNew", "(II)V"⟩) ∈ lw_all := lw_g (lw_at lw_ms 10 rfl) rfl
theorem qs11 : (Cond.selects "CrowdedBins" ⟨"CrowdedBins", "links", "(LCrowdedBins$Entry;)V"⟩ ⟨"CrowdedBins", "links", "(LCrowdedBins$Entry;)V"⟩) ∈ lw_all := lw_g (lw_at lw_ms 11 rfl) rfl
theorem qs12 : (Cond.selects "CrowdedBins" ⟨"CrowdedBins", "comesIn", "(LCrowdedBins$Entry;I)V"⟩ ⟨"CrowdedBins", "comesIn", "(LCrowdedBins$Entry;I)V"⟩) ∈ lw_all := lw_g (lw_at lw_ms 12 rfl) rfl
theorem qs13 : (Cond.selects "CrowdedBins" ⟨"CrowdedBins", "grows", "()V"⟩ ⟨"CrowdedBins", "grows", "()V"⟩) ∈ lw_all := lw_g (lw_at lw_ms 13 rfl) rfl
theorem qs14 : (Cond.selects "CrowdedBins" ⟨"CrowdedBins", "leavesOne", "(LCrowdedBins$Entry;)V"⟩ ⟨"CrowdedBins", "leavesOne", "(LCrowdedBins$Entry;)V"⟩) ∈ lw_all := lw_g (lw_at lw_ms 14 rfl) rfl
theorem qs15 : (Cond.selects "CrowdedBins" ⟨"CrowdedBins", "unlinks", "(LCrowdedBins$Entry;)V"⟩ ⟨"CrowdedBins", "unlinks", "(LCrowdedBins$Entry;)V"⟩) ∈ lw_all := lw_g (lw_at lw_ms 15 rfl) rfl
theorem qs16 : (Cond.selects "CrowdedBins" ⟨"CrowdedBins", "goesOut", "(LCrowdedBins$Entry;)V"⟩ ⟨"CrowdedBins", "goesOut", "(LCrowdedBins$Entry;)V"⟩) ∈ lw_all := lw_g (lw_at lw_ms 16 rfl) rfl
theorem qs17 : (Cond.selects "CrowdedBins" ⟨"CrowdedBins", "moves", "(LCrowdedBins$Entry;)V"⟩ ⟨"CrowdedBins", "moves", "(LCrowdedBins$Entry;)V"⟩) ∈ lw_all := lw_g (lw_at lw_ms 17 rfl) rfl
theorem qs18 : (Cond.selects "CrowdedBins" ⟨"CrowdedBins", "isBin", "(I)Z"⟩ ⟨"CrowdedBins", "isBin", "(I)Z"⟩) ∈ lw_all := lw_g (lw_at lw_ms 18 rfl) rfl
theorem qs19 : (Cond.selects "CrowdedBins" ⟨"CrowdedBins", "about", "(LCrowdedBins$Bin;I)I"⟩ ⟨"CrowdedBins", "about", "(LCrowdedBins$Bin;I)I"⟩) ∈ lw_all := lw_g (lw_at lw_ms 19 rfl) rfl
theorem qs20 : (Cond.selects "CrowdedBins" ⟨"CrowdedBins", "nodeOf", "(LCrowdedBins$Bin;LCrowdedBins$Entry;I)I"⟩ ⟨"CrowdedBins", "nodeOf", "(LCrowdedBins$Bin;LCrowdedBins$Entry;I)I"⟩) ∈ lw_all := lw_g (lw_at lw_ms 20 rfl) rfl
theorem qs21 : (Cond.selects "CrowdedBins" ⟨"CrowdedBins", "no", "()I"⟩ ⟨"CrowdedBins", "no", "()I"⟩) ∈ lw_all := lw_g (lw_at lw_ms 21 rfl) rfl
theorem qs22 : (Cond.selects "CrowdedBins" ⟨"CrowdedBins", "counted", "(I)I"⟩ ⟨"CrowdedBins", "counted", "(I)I"⟩) ∈ lw_all := lw_g (lw_at lw_ms 22 rfl) rfl
theorem qs23 : (Cond.selects "CrowdedBins$Way$3" ⟨"CrowdedBins$Way$3", "from", "(LCrowdedBins;I)LCrowdedBins$Entry;"⟩ ⟨"CrowdedBins$Way$3", "from", "(LCrowdedBins;I)LCrowdedBins$Entry;"⟩) ∈ lw_all := lw_g (lw_at lw_ms 23 rfl) rfl
theorem qs24 : (Cond.selects "CrowdedBins" ⟨"CrowdedBins", "isOpen", "(I)Z"⟩ ⟨"CrowdedBins", "isOpen", "(I)Z"⟩) ∈ lw_all := lw_g (lw_at lw_ms 24 rfl) rfl
theorem qs25 : (Cond.selects "CrowdedBins" ⟨"CrowdedBins", "late", "()I"⟩ ⟨"CrowdedBins", "late", "()I"⟩) ∈ lw_all := lw_g (lw_at lw_ms 25 rfl) rfl
theorem qs26 : (Cond.selects "CrowdedBins" ⟨"CrowdedBins", "yet", "(LCrowdedBins$Cursor;)I"⟩ ⟨"CrowdedBins", "yet", "(LCrowdedBins$Cursor;)I"⟩) ∈ lw_all := lw_g (lw_at lw_ms 26 rfl) rfl
theorem qs27 : (Cond.selects "CrowdedBins$Reader" ⟨"CrowdedBins$Reader", "order", "(Z)I"⟩ ⟨"CrowdedBins$Reader", "order", "(Z)I"⟩) ∈ lw_all := lw_g (lw_at lw_ms 27 rfl) rfl
theorem qs28 : (Cond.selects "CrowdedBins$Reader" ⟨"CrowdedBins$Reader", "here", "()I"⟩ ⟨"CrowdedBins$Reader", "here", "()I"⟩) ∈ lw_all := lw_g (lw_at lw_ms 28 rfl) rfl
theorem qs29 : (Cond.selects "java/lang/Throwable" ⟨"java/lang/Throwable", "fillInStackTrace", "(I)Ljava/lang/Throwable;"⟩ ⟨"java/lang/Throwable", "fillInStackTrace", "(I)Ljava/lang/Throwable;"⟩) ∈ lw_all := lw_g (lw_at lw_ms 29 rfl) rfl
theorem qs30 : (Cond.selects "CrowdedBins$Reader" ⟨"CrowdedBins$Reader", "number", "()I"⟩ ⟨"CrowdedBins$Reader", "number", "()I"⟩) ∈ lw_all := lw_g (lw_at lw_ms 30 rfl) rfl
theorem qs31 : (Cond.selects "CrowdedBins$Reader" ⟨"CrowdedBins$Reader", "isFigure", "()Z"⟩ ⟨"CrowdedBins$Reader", "isFigure", "()Z"⟩) ∈ lw_all := lw_g (lw_at lw_ms 31 rfl) rfl
theorem qs32 : (Cond.selects "CrowdedBins" ⟨"CrowdedBins", "takes", "(LCrowdedBins$State;)V"⟩ ⟨"CrowdedBins", "takes", "(LCrowdedBins$State;)V"⟩) ∈ lw_all := lw_g (lw_at lw_ms 32 rfl) rfl
theorem qs33 : (Cond.selects "CrowdedBins" ⟨"CrowdedBins", "ordered", "(I)LCrowdedBins$Entry;"⟩ ⟨"CrowdedBins", "ordered", "(I)LCrowdedBins$Entry;"⟩) ∈ lw_all := lw_g (lw_at lw_ms 33 rfl) rfl
theorem qs34 : (Cond.selects "CrowdedBins" ⟨"CrowdedBins", "toldOf", "(I)I"⟩ ⟨"CrowdedBins", "toldOf", "(I)I"⟩) ∈ lw_all := lw_g (lw_at lw_ms 34 rfl) rfl
theorem qs35 : (Cond.selects "CrowdedBins" ⟨"CrowdedBins", "openSet", "()I"⟩ ⟨"CrowdedBins", "openSet", "()I"⟩) ∈ lw_all := lw_g (lw_at lw_ms 35 rfl) rfl
theorem qs36 : (Cond.selects "CrowdedBinsModel" ⟨"CrowdedBinsModel", "mayPut", "(II)Z"⟩ ⟨"CrowdedBinsModel", "mayPut", "(II)Z"⟩) ∈ lw_all := lw_g (lw_at lw_ms 36 rfl) rfl
theorem qs37 : (Cond.selects "CrowdedBinsModel" ⟨"CrowdedBinsModel", "placeOf", "(I)I"⟩ ⟨"CrowdedBinsModel", "placeOf", "(I)I"⟩) ∈ lw_all := lw_g (lw_at lw_ms 37 rfl) rfl
theorem qs38 : (Cond.selects "CrowdedBinsModel" ⟨"CrowdedBinsModel", "isFull", "()Z"⟩ ⟨"CrowdedBinsModel", "isFull", "()Z"⟩) ∈ lw_all := lw_g (lw_at lw_ms 38 rfl) rfl
theorem qs39 : (Cond.selects "CrowdedBinsModel" ⟨"CrowdedBinsModel", "putRefused", "(II)I"⟩ ⟨"CrowdedBinsModel", "putRefused", "(II)I"⟩) ∈ lw_all := lw_g (lw_at lw_ms 39 rfl) rfl
theorem qs40 : (Cond.selects "CrowdedBinsModel" ⟨"CrowdedBinsModel", "refuses", "(I)I"⟩ ⟨"CrowdedBinsModel", "refuses", "(I)I"⟩) ∈ lw_all := lw_g (lw_at lw_ms 40 rfl) rfl
theorem qs41 : (Cond.selects "CrowdedBinsModel" ⟨"CrowdedBinsModel", "aside", "()V"⟩ ⟨"CrowdedBinsModel", "aside", "()V"⟩) ∈ lw_all := lw_g (lw_at lw_ms 41 rfl) rfl
theorem qs42 : (Cond.selects "CrowdedBinsModel" ⟨"CrowdedBinsModel", "putsNow", "(II)I"⟩ ⟨"CrowdedBinsModel", "putsNow", "(II)I"⟩) ∈ lw_all := lw_g (lw_at lw_ms 42 rfl) rfl
theorem qs43 : (Cond.selects "CrowdedBinsModel" ⟨"CrowdedBinsModel", "comes", "(II)V"⟩ ⟨"CrowdedBinsModel", "comes", "(II)V"⟩) ∈ lw_all := lw_g (lw_at lw_ms 43 rfl) rfl
theorem qs44 : (Cond.selects "CrowdedBinsModel" ⟨"CrowdedBinsModel", "binOf", "(I)I"⟩ ⟨"CrowdedBinsModel", "binOf", "(I)I"⟩) ∈ lw_all := lw_g (lw_at lw_ms 44 rfl) rfl
theorem qs45 : (Cond.selects "CrowdedBinsModel" ⟨"CrowdedBinsModel", "hashOf", "(I)I"⟩ ⟨"CrowdedBinsModel", "hashOf", "(I)I"⟩) ∈ lw_all := lw_g (lw_at lw_ms 45 rfl) rfl
theorem qs46 : (Cond.selects "CrowdedBinsModel" ⟨"CrowdedBinsModel", "fits", "(II)V"⟩ ⟨"CrowdedBinsModel", "fits", "(II)V"⟩) ∈ lw_all := lw_g (lw_at lw_ms 46 rfl) rfl
theorem qs47 : (Cond.selects "CrowdedBinsModel" ⟨"CrowdedBinsModel", "isTree", "(I)Z"⟩ ⟨"CrowdedBinsModel", "isTree", "(I)Z"⟩) ∈ lw_all := lw_g (lw_at lw_ms 47 rfl) rfl
theorem qs48 : (Cond.selects "CrowdedBinsModel" ⟨"CrowdedBinsModel", "manyIn", "(I)I"⟩ ⟨"CrowdedBinsModel", "manyIn", "(I)I"⟩) ∈ lw_all := lw_g (lw_at lw_ms 48 rfl) rfl
theorem qs49 : (Cond.selects "CrowdedBinsModel" ⟨"CrowdedBinsModel", "grows", "()V"⟩ ⟨"CrowdedBinsModel", "grows", "()V"⟩) ∈ lw_all := lw_g (lw_at lw_ms 49 rfl) rfl
theorem qs50 : (Cond.selects "CrowdedBinsModel" ⟨"CrowdedBinsModel", "goes", "(I)V"⟩ ⟨"CrowdedBinsModel", "goes", "(I)V"⟩) ∈ lw_all := lw_g (lw_at lw_ms 50 rfl) rfl
theorem qs51 : (Cond.selects "CrowdedBinsModel" ⟨"CrowdedBinsModel", "moves", "(I)V"⟩ ⟨"CrowdedBinsModel", "moves", "(I)V"⟩) ∈ lw_all := lw_g (lw_at lw_ms 51 rfl) rfl
theorem qs52 : (Cond.selects "CrowdedBinsModel" ⟨"CrowdedBinsModel", "isLast", "(I)Z"⟩ ⟨"CrowdedBinsModel", "isLast", "(I)Z"⟩) ∈ lw_all := lw_g (lw_at lw_ms 52 rfl) rfl
theorem qs53 : (Cond.selects "CrowdedBinsModel" ⟨"CrowdedBinsModel", "keeps", "()V"⟩ ⟨"CrowdedBinsModel", "keeps", "()V"⟩) ∈ lw_all := lw_g (lw_at lw_ms 53 rfl) rfl
theorem qs54 : (Cond.selects "CrowdedBinsModel" ⟨"CrowdedBinsModel", "getsNow", "(I)I"⟩ ⟨"CrowdedBinsModel", "getsNow", "(I)I"⟩) ∈ lw_all := lw_g (lw_at lw_ms 54 rfl) rfl
theorem qs55 : (Cond.selects "CrowdedBinsModel" ⟨"CrowdedBinsModel", "removesNow", "(I)I"⟩ ⟨"CrowdedBinsModel", "removesNow", "(I)I"⟩) ∈ lw_all := lw_g (lw_at lw_ms 55 rfl) rfl
theorem qs56 : (Cond.selects "CrowdedBinsModel" ⟨"CrowdedBinsModel", "clearsNow", "()I"⟩ ⟨"CrowdedBinsModel", "clearsNow", "()I"⟩) ∈ lw_all := lw_g (lw_at lw_ms 56 rfl) rfl
theorem qs57 : (Cond.selects "CrowdedBinsModel" ⟨"CrowdedBinsModel", "empties", "()V"⟩ ⟨"CrowdedBinsModel", "empties", "()V"⟩) ∈ lw_all := lw_g (lw_at lw_ms 57 rfl) rfl
theorem qs58 : (Cond.selects "CrowdedBinsModel" ⟨"CrowdedBinsModel", "stepsTo", "(I)I"⟩ ⟨"CrowdedBinsModel", "stepsTo", "(I)I"⟩) ∈ lw_all := lw_g (lw_at lw_ms 58 rfl) rfl
theorem qs59 : (Cond.selects "CrowdedBinsModel" ⟨"CrowdedBinsModel", "descends", "(II)I"⟩ ⟨"CrowdedBinsModel", "descends", "(II)I"⟩) ∈ lw_all := lw_g (lw_at lw_ms 59 rfl) rfl
theorem qs60 : (Cond.selects "CrowdedBinsModel" ⟨"CrowdedBinsModel", "inOrder", "(I)V"⟩ ⟨"CrowdedBinsModel", "inOrder", "(I)V"⟩) ∈ lw_all := lw_g (lw_at lw_ms 60 rfl) rfl
theorem qs61 : (Cond.selects "CrowdedBinsModel" ⟨"CrowdedBinsModel", "holds", "(I)V"⟩ ⟨"CrowdedBinsModel", "holds", "(I)V"⟩) ∈ lw_all := lw_g (lw_at lw_ms 61 rfl) rfl
theorem qs62 : (Cond.selects "CrowdedBinsModel" ⟨"CrowdedBinsModel", "isAhead", "(II)Z"⟩ ⟨"CrowdedBinsModel", "isAhead", "(II)Z"⟩) ∈ lw_all := lw_g (lw_at lw_ms 62 rfl) rfl
theorem qs63 : (Cond.selects "CrowdedBinsModel" ⟨"CrowdedBinsModel", "rootOf", "(II)I"⟩ ⟨"CrowdedBinsModel", "rootOf", "(II)I"⟩) ∈ lw_all := lw_g (lw_at lw_ms 63 rfl) rfl
theorem qs64 : (Cond.selects "CrowdedBinsModel" ⟨"CrowdedBinsModel", "binFact", "(II)I"⟩ ⟨"CrowdedBinsModel", "binFact", "(II)I"⟩) ∈ lw_all := lw_g (lw_at lw_ms 64 rfl) rfl
theorem qs65 : (Cond.selects "CrowdedBinsModel" ⟨"CrowdedBinsModel", "keyAt", "(I)I"⟩ ⟨"CrowdedBinsModel", "keyAt", "(I)I"⟩) ∈ lw_all := lw_g (lw_at lw_ms 65 rfl) rfl
theorem qs66 : (Cond.selects "CrowdedBinsModel" ⟨"CrowdedBinsModel", "deepest", "(I)I"⟩ ⟨"CrowdedBinsModel", "deepest", "(I)I"⟩) ∈ lw_all := lw_g (lw_at lw_ms 66 rfl) rfl
theorem qs67 : (Cond.selects "CrowdedBinsModel" ⟨"CrowdedBinsModel", "rowAt", "(II)I"⟩ ⟨"CrowdedBinsModel", "rowAt", "(II)I"⟩) ∈ lw_all := lw_g (lw_at lw_ms 67 rfl) rfl
theorem qs68 : (Cond.selects "CrowdedBinsModel" ⟨"CrowdedBinsModel", "nodeFact", "(II)I"⟩ ⟨"CrowdedBinsModel", "nodeFact", "(II)I"⟩) ∈ lw_all := lw_g (lw_at lw_ms 68 rfl) rfl
theorem qs69 : (Cond.selects "CrowdedBinsModel" ⟨"CrowdedBinsModel", "countOf", "(I)I"⟩ ⟨"CrowdedBinsModel", "countOf", "(I)I"⟩) ∈ lw_all := lw_g (lw_at lw_ms 69 rfl) rfl
theorem qs70 : (Cond.selects "CrowdedBinsModel" ⟨"CrowdedBinsModel", "keyOrNone", "(II)I"⟩ ⟨"CrowdedBinsModel", "keyOrNone", "(II)I"⟩) ∈ lw_all := lw_g (lw_at lw_ms 70 rfl) rfl
theorem qs71 : (Cond.selects "CrowdedBinsModel" ⟨"CrowdedBinsModel", "keyBy", "(II)I"⟩ ⟨"CrowdedBinsModel", "keyBy", "(II)I"⟩) ∈ lw_all := lw_g (lw_at lw_ms 71 rfl) rfl
theorem qs72 : (Cond.selects "CrowdedBinsModel" ⟨"CrowdedBinsModel", "lacks", "(I)I"⟩ ⟨"CrowdedBinsModel", "lacks", "(I)I"⟩) ∈ lw_all := lw_g (lw_at lw_ms 72 rfl) rfl
theorem qs73 : (Cond.selects "CrowdedBinsModel" ⟨"CrowdedBinsModel", "placeBy", "(II)I"⟩ ⟨"CrowdedBinsModel", "placeBy", "(II)I"⟩) ∈ lw_all := lw_g (lw_at lw_ms 73 rfl) rfl
theorem qs74 : (Cond.selects "CrowdedBinsModel" ⟨"CrowdedBinsModel", "leftOf", "(I)I"⟩ ⟨"CrowdedBinsModel", "leftOf", "(I)I"⟩) ∈ lw_all := lw_g (lw_at lw_ms 74 rfl) rfl
theorem qs75 : (Cond.selects "CrowdedBinsModel" ⟨"CrowdedBinsModel", "work", "(Z)I"⟩ ⟨"CrowdedBinsModel", "work", "(Z)I"⟩) ∈ lw_all := lw_g (lw_at lw_ms 75 rfl) rfl
theorem qs76 : (Cond.selects "CrowdedBinsModel" ⟨"CrowdedBinsModel", "here", "()I"⟩ ⟨"CrowdedBinsModel", "here", "()I"⟩) ∈ lw_all := lw_g (lw_at lw_ms 76 rfl) rfl
theorem qs77 : (Cond.selects "CrowdedBinsModel" ⟨"CrowdedBinsModel", "isNumber", "()Z"⟩ ⟨"CrowdedBinsModel", "isNumber", "()Z"⟩) ∈ lw_all := lw_g (lw_at lw_ms 77 rfl) rfl
theorem qs78 : (Cond.selects "CrowdedBinsModel" ⟨"CrowdedBinsModel", "isFigure", "()Z"⟩ ⟨"CrowdedBinsModel", "isFigure", "()Z"⟩) ∈ lw_all := lw_g (lw_at lw_ms 78 rfl) rfl
theorem qs79 : (Cond.selects "CrowdedBinsModel" ⟨"CrowdedBinsModel", "toldOf", "(I)I"⟩ ⟨"CrowdedBinsModel", "toldOf", "(I)I"⟩) ∈ lw_all := lw_g (lw_at lw_ms 79 rfl) rfl
