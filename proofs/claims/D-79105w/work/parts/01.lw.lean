-- ===== PART A: goes FIRST, ahead of the names: the tables' words, and 'selects' of the private methods out of them =====
/-- a private method of a class that the tables say can be made, by its rows of tables_1 -/
def lw_okq (q : MethodName × Nat) : Prop := (q.1.cls ≠ "java/lang/invoke/MethodHandle" ∧ q.1.cls ≠ "java/lang/invoke/VarHandle") ∧ Cond.instantiable q.1.cls q.2 ∈ tables_1 ∧ Cond.privateMethod q.1 ∈ tables_1 ∧ Cond.instanceMethod q.1 ∈ tables_1
set_option maxRecDepth 100000
theorem lw_t1 {w : Cond} (h : w ∈ tables_1_1) : w ∈ tables_1 := List.mem_append_left _ h
theorem lw_t2 {w : Cond} (h : w ∈ tables_1_2) : w ∈ tables_1 := List.mem_append_right _ (List.mem_append_left _ h)
theorem lw_t3 {w : Cond} (h : w ∈ tables_1_3) : w ∈ tables_1 := List.mem_append_right _ (List.mem_append_right _ (List.mem_append_left _ h))
theorem lw_t4 {w : Cond} (h : w ∈ tables_1_4) : w ∈ tables_1 := List.mem_append_right _ (List.mem_append_right _ (List.mem_append_right _ (List.mem_append_left _ h)))
theorem lw_t5 {w : Cond} (h : w ∈ tables_1_5) : w ∈ tables_1 := List.mem_append_right _ (List.mem_append_right _ (List.mem_append_right _ (List.mem_append_right _ (List.mem_append_left _ h))))
theorem lw_t6 {w : Cond} (h : w ∈ tables_1_6) : w ∈ tables_1 := List.mem_append_right _ (List.mem_append_right _ (List.mem_append_right _ (List.mem_append_right _ (List.mem_append_right _ h))))
theorem lw_p0 : lw_okq (⟨"SwarmPlanner", "againstAdding", "(II)I"⟩, 21) := ⟨⟨by decide +kernel, by decide +kernel⟩, lw_t1 (List.mem_of_getElem? (i := 25) rfl), lw_t1 (List.mem_of_getElem? (i := 195) rfl), lw_t1 (List.mem_of_getElem? (i := 196) rfl)⟩
theorem lw_p1 : lw_okq (⟨"SwarmPlanner", "added", "()I"⟩, 21) := ⟨⟨by decide +kernel, by decide +kernel⟩, lw_t1 (List.mem_of_getElem? (i := 25) rfl), lw_t1 (List.mem_of_getElem? (i := 202) rfl), lw_t1 (List.mem_of_getElem? (i := 203) rfl)⟩
theorem lw_p2 : lw_okq (⟨"SwarmPlanner", "changes", "()V"⟩, 21) := ⟨⟨by decide +kernel, by decide +kernel⟩, lw_t1 (List.mem_of_getElem? (i := 25) rfl), lw_t1 (List.mem_of_getElem? (i := 206) rfl), lw_t1 (List.mem_of_getElem? (i := 207) rfl)⟩
theorem lw_p3 : lw_okq (⟨"java/util/ArrayList", "add", "(Ljava/lang/Object;[Ljava/lang/Object;I)V"⟩, 3) := ⟨⟨by decide +kernel, by decide +kernel⟩, lw_t1 (List.mem_of_getElem? (i := 83) rfl), lw_t2 (List.mem_of_getElem? (i := 27) rfl), lw_t2 (List.mem_of_getElem? (i := 28) rfl)⟩
theorem lw_p4 : lw_okq (⟨"java/util/ArrayList", "grow", "()[Ljava/lang/Object;"⟩, 3) := ⟨⟨by decide +kernel, by decide +kernel⟩, lw_t1 (List.mem_of_getElem? (i := 83) rfl), lw_t2 (List.mem_of_getElem? (i := 31) rfl), lw_t2 (List.mem_of_getElem? (i := 32) rfl)⟩
theorem lw_p5 : lw_okq (⟨"java/util/ArrayList", "grow", "(I)[Ljava/lang/Object;"⟩, 3) := ⟨⟨by decide +kernel, by decide +kernel⟩, lw_t1 (List.mem_of_getElem? (i := 83) rfl), lw_t2 (List.mem_of_getElem? (i := 35) rfl), lw_t2 (List.mem_of_getElem? (i := 36) rfl)⟩
theorem lw_p6 : lw_okq (⟨"java/util/ArrayList", "fastRemove", "([Ljava/lang/Object;I)V"⟩, 3) := ⟨⟨by decide +kernel, by decide +kernel⟩, lw_t1 (List.mem_of_getElem? (i := 83) rfl), lw_t2 (List.mem_of_getElem? (i := 94) rfl), lw_t2 (List.mem_of_getElem? (i := 95) rfl)⟩
theorem lw_p7 : lw_okq (⟨"SwarmPlanner", "adds", "(II)I"⟩, 21) := ⟨⟨by decide +kernel, by decide +kernel⟩, lw_t1 (List.mem_of_getElem? (i := 25) rfl), lw_t2 (List.mem_of_getElem? (i := 99) rfl), lw_t2 (List.mem_of_getElem? (i := 100) rfl)⟩
theorem lw_p8 : lw_okq (⟨"SwarmPlanner", "turns", "(I)I"⟩, 21) := ⟨⟨by decide +kernel, by decide +kernel⟩, lw_t1 (List.mem_of_getElem? (i := 25) rfl), lw_t2 (List.mem_of_getElem? (i := 145) rfl), lw_t2 (List.mem_of_getElem? (i := 146) rfl)⟩
theorem lw_p9 : lw_okq (⟨"SwarmPlanner$Reader", "shapeRow", "(I)V"⟩, 6) := ⟨⟨by decide +kernel, by decide +kernel⟩, lw_t2 (List.mem_of_getElem? (i := 165) rfl), lw_t2 (List.mem_of_getElem? (i := 194) rfl), lw_t2 (List.mem_of_getElem? (i := 195) rfl)⟩
theorem lw_p10 : lw_okq (⟨"SwarmPlanner$Reader", "isSlot", "()Z"⟩, 6) := ⟨⟨by decide +kernel, by decide +kernel⟩, lw_t2 (List.mem_of_getElem? (i := 165) rfl), lw_t2 (List.mem_of_getElem? (i := 198) rfl), lw_t2 (List.mem_of_getElem? (i := 199) rfl)⟩
theorem lw_p11 : lw_okq (⟨"SwarmPlanner$Reader", "sign", "()I"⟩, 6) := ⟨⟨by decide +kernel, by decide +kernel⟩, lw_t2 (List.mem_of_getElem? (i := 165) rfl), lw_t2 (List.mem_of_getElem? (i := 202) rfl), lw_t2 (List.mem_of_getElem? (i := 203) rfl)⟩
theorem lw_p12 : lw_okq (⟨"SwarmPlanner$Reader", "need", "(Z)V"⟩, 6) := ⟨⟨by decide +kernel, by decide +kernel⟩, lw_t2 (List.mem_of_getElem? (i := 165) rfl), lw_t2 (List.mem_of_getElem? (i := 206) rfl), lw_t2 (List.mem_of_getElem? (i := 207) rfl)⟩
theorem lw_p13 : lw_okq (⟨"java/lang/Throwable", "fillInStackTrace", "(I)Ljava/lang/Throwable;"⟩, 6) := ⟨⟨by decide +kernel, by decide +kernel⟩, lw_t3 (List.mem_of_getElem? (i := 4) rfl), lw_t3 (List.mem_of_getElem? (i := 2) rfl), lw_t3 (List.mem_of_getElem? (i := 3) rfl)⟩
theorem lw_p14 : lw_okq (⟨"SwarmPlanner", "notesCells", "()V"⟩, 21) := ⟨⟨by decide +kernel, by decide +kernel⟩, lw_t1 (List.mem_of_getElem? (i := 25) rfl), lw_t3 (List.mem_of_getElem? (i := 67) rfl), lw_t3 (List.mem_of_getElem? (i := 68) rfl)⟩
theorem lw_p15 : lw_okq (⟨"SwarmPlanner", "makes", "(I)V"⟩, 21) := ⟨⟨by decide +kernel, by decide +kernel⟩, lw_t1 (List.mem_of_getElem? (i := 25) rfl), lw_t3 (List.mem_of_getElem? (i := 71) rfl), lw_t3 (List.mem_of_getElem? (i := 72) rfl)⟩
def lw_privs_1 : List (MethodName × Nat) := [(⟨"SwarmPlanner", "againstAdding", "(II)I"⟩, 21), (⟨"SwarmPlanner", "added", "()I"⟩, 21), (⟨"SwarmPlanner", "changes", "()V"⟩, 21), (⟨"java/util/ArrayList", "add", "(Ljava/lang/Object;[Ljava/lang/Object;I)V"⟩, 3), (⟨"java/util/ArrayList", "grow", "()[Ljava/lang/Object;"⟩, 3), (⟨"java/util/ArrayList", "grow", "(I)[Ljava/lang/Object;"⟩, 3), (⟨"java/util/ArrayList", "fastRemove", "([Ljava/lang/Object;I)V"⟩, 3), (⟨"SwarmPlanner", "adds", "(II)I"⟩, 21), (⟨"SwarmPlanner", "turns", "(I)I"⟩, 21), (⟨"SwarmPlanner$Reader", "shapeRow", "(I)V"⟩, 6), (⟨"SwarmPlanner$Reader", "isSlot", "()Z"⟩, 6), (⟨"SwarmPlanner$Reader", "sign", "()I"⟩, 6), (⟨"SwarmPlanner$Reader", "need", "(Z)V"⟩, 6), (⟨"java/lang/Throwable", "fillInStackTrace", "(I)Ljava/lang/Throwable;"⟩, 6), (⟨"SwarmPlanner", "notesCells", "()V"⟩, 21), (⟨"SwarmPlanner", "makes", "(I)V"⟩, 21)]
theorem lw_r1 : ∀ q ∈ lw_privs_1, lw_okq q := List.forall_mem_cons.mpr ⟨lw_p0, List.forall_mem_cons.mpr ⟨lw_p1, List.forall_mem_cons.mpr ⟨lw_p2, List.forall_mem_cons.mpr ⟨lw_p3, List.forall_mem_cons.mpr ⟨lw_p4, List.forall_mem_cons.mpr ⟨lw_p5, List.forall_mem_cons.mpr ⟨lw_p6, List.forall_mem_cons.mpr ⟨lw_p7, List.forall_mem_cons.mpr ⟨lw_p8, List.forall_mem_cons.mpr ⟨lw_p9, List.forall_mem_cons.mpr ⟨lw_p10, List.forall_mem_cons.mpr ⟨lw_p11, List.forall_mem_cons.mpr ⟨lw_p12, List.forall_mem_cons.mpr ⟨lw_p13, List.forall_mem_cons.mpr ⟨lw_p14, List.forall_mem_cons.mpr ⟨lw_p15, fun _ h => absurd h List.not_mem_nil⟩⟩⟩⟩⟩⟩⟩⟩⟩⟩⟩⟩⟩⟩⟩⟩
theorem lw_p16 : lw_okq (⟨"SwarmPlanner", "round", "()V"⟩, 21) := ⟨⟨by decide +kernel, by decide +kernel⟩, lw_t1 (List.mem_of_getElem? (i := 25) rfl), lw_t3 (List.mem_of_getElem? (i := 75) rfl), lw_t3 (List.mem_of_getElem? (i := 76) rfl)⟩
theorem lw_p17 : lw_okq (⟨"SwarmPlanner", "leaderActs", "(LSwarmPlanner$Member;)I"⟩, 21) := ⟨⟨by decide +kernel, by decide +kernel⟩, lw_t1 (List.mem_of_getElem? (i := 25) rfl), lw_t3 (List.mem_of_getElem? (i := 79) rfl), lw_t3 (List.mem_of_getElem? (i := 80) rfl)⟩
theorem lw_p18 : lw_okq (⟨"SwarmPlanner", "lays", "(I[I)V"⟩, 21) := ⟨⟨by decide +kernel, by decide +kernel⟩, lw_t1 (List.mem_of_getElem? (i := 25) rfl), lw_t3 (List.mem_of_getElem? (i := 83) rfl), lw_t3 (List.mem_of_getElem? (i := 84) rfl)⟩
theorem lw_p19 : lw_okq (⟨"SwarmPlanner", "steps", "(LSwarmPlanner$Member;I)V"⟩, 21) := ⟨⟨by decide +kernel, by decide +kernel⟩, lw_t1 (List.mem_of_getElem? (i := 25) rfl), lw_t3 (List.mem_of_getElem? (i := 98) rfl), lw_t3 (List.mem_of_getElem? (i := 99) rfl)⟩
theorem lw_p20 : lw_okq (⟨"SwarmPlanner", "waits", "(LSwarmPlanner$Member;)V"⟩, 21) := ⟨⟨by decide +kernel, by decide +kernel⟩, lw_t1 (List.mem_of_getElem? (i := 25) rfl), lw_t3 (List.mem_of_getElem? (i := 106) rfl), lw_t3 (List.mem_of_getElem? (i := 107) rfl)⟩
theorem lw_p21 : lw_okq (⟨"SwarmPlanner", "gives", "()V"⟩, 21) := ⟨⟨by decide +kernel, by decide +kernel⟩, lw_t1 (List.mem_of_getElem? (i := 25) rfl), lw_t3 (List.mem_of_getElem? (i := 110) rfl), lw_t3 (List.mem_of_getElem? (i := 111) rfl)⟩
theorem lw_p22 : lw_okq (⟨"SwarmPlanner", "laysPlaces", "()V"⟩, 21) := ⟨⟨by decide +kernel, by decide +kernel⟩, lw_t1 (List.mem_of_getElem? (i := 25) rfl), lw_t3 (List.mem_of_getElem? (i := 114) rfl), lw_t3 (List.mem_of_getElem? (i := 115) rfl)⟩
theorem lw_p23 : lw_okq (⟨"SwarmPlanner$Chain", "sum", "(I)I"⟩, 4) := ⟨⟨by decide +kernel, by decide +kernel⟩, lw_t3 (List.mem_of_getElem? (i := 118) rfl), lw_t3 (List.mem_of_getElem? (i := 144) rfl), lw_t3 (List.mem_of_getElem? (i := 145) rfl)⟩
theorem lw_p24 : lw_okq (⟨"SwarmPlanner", "isGiveable", "(IILSwarmPlanner$Member;)Z"⟩, 21) := ⟨⟨by decide +kernel, by decide +kernel⟩, lw_t1 (List.mem_of_getElem? (i := 25) rfl), lw_t3 (List.mem_of_getElem? (i := 152) rfl), lw_t3 (List.mem_of_getElem? (i := 153) rfl)⟩
theorem lw_p25 : lw_okq (⟨"SwarmPlanner$Chain", "with", "(II)I"⟩, 4) := ⟨⟨by decide +kernel, by decide +kernel⟩, lw_t3 (List.mem_of_getElem? (i := 118) rfl), lw_t3 (List.mem_of_getElem? (i := 156) rfl), lw_t3 (List.mem_of_getElem? (i := 157) rfl)⟩
theorem lw_p26 : lw_okq (⟨"SwarmPlanner", "begins", "(LSwarmPlanner$Member;I)V"⟩, 21) := ⟨⟨by decide +kernel, by decide +kernel⟩, lw_t1 (List.mem_of_getElem? (i := 25) rfl), lw_t3 (List.mem_of_getElem? (i := 185) rfl), lw_t3 (List.mem_of_getElem? (i := 186) rfl)⟩
theorem lw_p27 : lw_okq (⟨"SwarmPlanner", "distanceOf", "(LSwarmPlanner$Member;)I"⟩, 21) := ⟨⟨by decide +kernel, by decide +kernel⟩, lw_t1 (List.mem_of_getElem? (i := 25) rfl), lw_t3 (List.mem_of_getElem? (i := 189) rfl), lw_t3 (List.mem_of_getElem? (i := 190) rfl)⟩
theorem lw_p28 : lw_okq (⟨"java/util/PriorityQueue", "grow", "(I)V"⟩, 4) := ⟨⟨by decide +kernel, by decide +kernel⟩, lw_t3 (List.mem_of_getElem? (i := 162) rfl), lw_t3 (List.mem_of_getElem? (i := 201) rfl), lw_t3 (List.mem_of_getElem? (i := 202) rfl)⟩
theorem lw_p29 : lw_okq (⟨"java/util/PriorityQueue", "siftUp", "(ILjava/lang/Object;)V"⟩, 4) := ⟨⟨by decide +kernel, by decide +kernel⟩, lw_t3 (List.mem_of_getElem? (i := 162) rfl), lw_t3 (List.mem_of_getElem? (i := 207) rfl), lw_t3 (List.mem_of_getElem? (i := 208) rfl)⟩
theorem lw_p30 : lw_okq (⟨"SwarmPlanner", "acts", "(LSwarmPlanner$Member;)V"⟩, 21) := ⟨⟨by decide +kernel, by decide +kernel⟩, lw_t1 (List.mem_of_getElem? (i := 25) rfl), lw_t4 (List.mem_of_getElem? (i := 40) rfl), lw_t4 (List.mem_of_getElem? (i := 41) rfl)⟩
theorem lw_p31 : lw_okq (⟨"SwarmPlanner", "freeFor", "(LSwarmPlanner$Member;)I"⟩, 21) := ⟨⟨by decide +kernel, by decide +kernel⟩, lw_t1 (List.mem_of_getElem? (i := 25) rfl), lw_t4 (List.mem_of_getElem? (i := 44) rfl), lw_t4 (List.mem_of_getElem? (i := 45) rfl)⟩
def lw_privs_2 : List (MethodName × Nat) := [(⟨"SwarmPlanner", "round", "()V"⟩, 21), (⟨"SwarmPlanner", "leaderActs", "(LSwarmPlanner$Member;)I"⟩, 21), (⟨"SwarmPlanner", "lays", "(I[I)V"⟩, 21), (⟨"SwarmPlanner", "steps", "(LSwarmPlanner$Member;I)V"⟩, 21), (⟨"SwarmPlanner", "waits", "(LSwarmPlanner$Member;)V"⟩, 21), (⟨"SwarmPlanner", "gives", "()V"⟩, 21), (⟨"SwarmPlanner", "laysPlaces", "()V"⟩, 21), (⟨"SwarmPlanner$Chain", "sum", "(I)I"⟩, 4), (⟨"SwarmPlanner", "isGiveable", "(IILSwarmPlanner$Member;)Z"⟩, 21), (⟨"SwarmPlanner$Chain", "with", "(II)I"⟩, 4), (⟨"SwarmPlanner", "begins", "(LSwarmPlanner$Member;I)V"⟩, 21), (⟨"SwarmPlanner", "distanceOf", "(LSwarmPlanner$Member;)I"⟩, 21), (⟨"java/util/PriorityQueue", "grow", "(I)V"⟩, 4), (⟨"java/util/PriorityQueue", "siftUp", "(ILjava/lang/Object;)V"⟩, 4), (⟨"SwarmPlanner", "acts", "(LSwarmPlanner$Member;)V"⟩, 21), (⟨"SwarmPlanner", "freeFor", "(LSwarmPlanner$Member;)I"⟩, 21)]
theorem lw_r2 : ∀ q ∈ lw_privs_2, lw_okq q := List.forall_mem_cons.mpr ⟨lw_p16, List.forall_mem_cons.mpr ⟨lw_p17, List.forall_mem_cons.mpr ⟨lw_p18, List.forall_mem_cons.mpr ⟨lw_p19, List.forall_mem_cons.mpr ⟨lw_p20, List.forall_mem_cons.mpr ⟨lw_p21, List.forall_mem_cons.mpr ⟨lw_p22, List.forall_mem_cons.mpr ⟨lw_p23, List.forall_mem_cons.mpr ⟨lw_p24, List.forall_mem_cons.mpr ⟨lw_p25, List.forall_mem_cons.mpr ⟨lw_p26, List.forall_mem_cons.mpr ⟨lw_p27, List.forall_mem_cons.mpr ⟨lw_p28, List.forall_mem_cons.mpr ⟨lw_p29, List.forall_mem_cons.mpr ⟨lw_p30, List.forall_mem_cons.mpr ⟨lw_p31, fun _ h => absurd h List.not_mem_nil⟩⟩⟩⟩⟩⟩⟩⟩⟩⟩⟩⟩⟩⟩⟩⟩
theorem lw_p32 : lw_okq (⟨"SwarmPlanner", "isGood", "(LSwarmPlanner$Member;I)Z"⟩, 21) := ⟨⟨by decide +kernel, by decide +kernel⟩, lw_t1 (List.mem_of_getElem? (i := 25) rfl), lw_t4 (List.mem_of_getElem? (i := 48) rfl), lw_t4 (List.mem_of_getElem? (i := 49) rfl)⟩
theorem lw_p33 : lw_okq (⟨"SwarmPlanner", "partnerOf", "(LSwarmPlanner$Member;)LSwarmPlanner$Member;"⟩, 21) := ⟨⟨by decide +kernel, by decide +kernel⟩, lw_t1 (List.mem_of_getElem? (i := 25) rfl), lw_t4 (List.mem_of_getElem? (i := 56) rfl), lw_t4 (List.mem_of_getElem? (i := 57) rfl)⟩
theorem lw_p34 : lw_okq (⟨"SwarmPlanner", "gains", "(LSwarmPlanner$Member;LSwarmPlanner$Member;)Z"⟩, 21) := ⟨⟨by decide +kernel, by decide +kernel⟩, lw_t1 (List.mem_of_getElem? (i := 25) rfl), lw_t4 (List.mem_of_getElem? (i := 60) rfl), lw_t4 (List.mem_of_getElem? (i := 61) rfl)⟩
theorem lw_p35 : lw_okq (⟨"SwarmPlanner", "waitsOrGoes", "(LSwarmPlanner$Member;)I"⟩, 21) := ⟨⟨by decide +kernel, by decide +kernel⟩, lw_t1 (List.mem_of_getElem? (i := 25) rfl), lw_t4 (List.mem_of_getElem? (i := 64) rfl), lw_t4 (List.mem_of_getElem? (i := 65) rfl)⟩
theorem lw_p36 : lw_okq (⟨"SwarmPlanner", "asideOf", "(LSwarmPlanner$Member;)I"⟩, 21) := ⟨⟨by decide +kernel, by decide +kernel⟩, lw_t1 (List.mem_of_getElem? (i := 25) rfl), lw_t4 (List.mem_of_getElem? (i := 68) rfl), lw_t4 (List.mem_of_getElem? (i := 69) rfl)⟩
theorem lw_p37 : lw_okq (⟨"SwarmPlanner", "isExchanged", "(LSwarmPlanner$Member;)V"⟩, 21) := ⟨⟨by decide +kernel, by decide +kernel⟩, lw_t1 (List.mem_of_getElem? (i := 25) rfl), lw_t4 (List.mem_of_getElem? (i := 76) rfl), lw_t4 (List.mem_of_getElem? (i := 77) rfl)⟩
theorem lw_p38 : lw_okq (⟨"SwarmPlanner", "elsewhere", "()I"⟩, 21) := ⟨⟨by decide +kernel, by decide +kernel⟩, lw_t1 (List.mem_of_getElem? (i := 25) rfl), lw_t4 (List.mem_of_getElem? (i := 80) rfl), lw_t4 (List.mem_of_getElem? (i := 81) rfl)⟩
theorem lw_p39 : lw_okq (⟨"SwarmPlanner$Reader", "command", "()LSwarmPlanner$Command;"⟩, 6) := ⟨⟨by decide +kernel, by decide +kernel⟩, lw_t2 (List.mem_of_getElem? (i := 165) rfl), lw_t4 (List.mem_of_getElem? (i := 94) rfl), lw_t4 (List.mem_of_getElem? (i := 95) rfl)⟩
theorem lw_p40 : lw_okq (⟨"SwarmPlanner$Reader", "number", "()I"⟩, 6) := ⟨⟨by decide +kernel, by decide +kernel⟩, lw_t2 (List.mem_of_getElem? (i := 165) rfl), lw_t4 (List.mem_of_getElem? (i := 98) rfl), lw_t4 (List.mem_of_getElem? (i := 99) rfl)⟩
theorem lw_p41 : lw_okq (⟨"SwarmPlanner", "carriesOut", "(Ljava/util/ArrayList;)I"⟩, 21) := ⟨⟨by decide +kernel, by decide +kernel⟩, lw_t1 (List.mem_of_getElem? (i := 25) rfl), lw_t4 (List.mem_of_getElem? (i := 123) rfl), lw_t4 (List.mem_of_getElem? (i := 124) rfl)⟩
theorem lw_p42 : lw_okq (⟨"SwarmPlanner$Command", "isThere", "()Z"⟩, 4) := ⟨⟨by decide +kernel, by decide +kernel⟩, lw_t4 (List.mem_of_getElem? (i := 103) rfl), lw_t4 (List.mem_of_getElem? (i := 133) rfl), lw_t4 (List.mem_of_getElem? (i := 134) rfl)⟩
theorem lw_p43 : lw_okq (⟨"SwarmPlanner$Command", "cell", "()I"⟩, 4) := ⟨⟨by decide +kernel, by decide +kernel⟩, lw_t4 (List.mem_of_getElem? (i := 103) rfl), lw_t4 (List.mem_of_getElem? (i := 138) rfl), lw_t4 (List.mem_of_getElem? (i := 139) rfl)⟩
theorem lw_p44 : lw_okq (⟨"SwarmPlanner", "placeOf", "(LSwarmPlanner$Member;)I"⟩, 21) := ⟨⟨by decide +kernel, by decide +kernel⟩, lw_t1 (List.mem_of_getElem? (i := 25) rfl), lw_t4 (List.mem_of_getElem? (i := 160) rfl), lw_t4 (List.mem_of_getElem? (i := 161) rfl)⟩
theorem lw_p45 : lw_okq (⟨"SwarmPlanner", "given", "()I"⟩, 21) := ⟨⟨by decide +kernel, by decide +kernel⟩, lw_t1 (List.mem_of_getElem? (i := 25) rfl), lw_t4 (List.mem_of_getElem? (i := 168) rfl), lw_t4 (List.mem_of_getElem? (i := 169) rfl)⟩
theorem lw_p46 : lw_okq (⟨"SwarmPlanner", "distances", "()I"⟩, 21) := ⟨⟨by decide +kernel, by decide +kernel⟩, lw_t1 (List.mem_of_getElem? (i := 25) rfl), lw_t4 (List.mem_of_getElem? (i := 172) rfl), lw_t4 (List.mem_of_getElem? (i := 173) rfl)⟩
theorem lw_p47 : lw_okq (⟨"SwarmPlanner", "isFormed", "()Z"⟩, 21) := ⟨⟨by decide +kernel, by decide +kernel⟩, lw_t1 (List.mem_of_getElem? (i := 25) rfl), lw_t4 (List.mem_of_getElem? (i := 176) rfl), lw_t4 (List.mem_of_getElem? (i := 177) rfl)⟩
def lw_privs_3 : List (MethodName × Nat) := [(⟨"SwarmPlanner", "isGood", "(LSwarmPlanner$Member;I)Z"⟩, 21), (⟨"SwarmPlanner", "partnerOf", "(LSwarmPlanner$Member;)LSwarmPlanner$Member;"⟩, 21), (⟨"SwarmPlanner", "gains", "(LSwarmPlanner$Member;LSwarmPlanner$Member;)Z"⟩, 21), (⟨"SwarmPlanner", "waitsOrGoes", "(LSwarmPlanner$Member;)I"⟩, 21), (⟨"SwarmPlanner", "asideOf", "(LSwarmPlanner$Member;)I"⟩, 21), (⟨"SwarmPlanner", "isExchanged", "(LSwarmPlanner$Member;)V"⟩, 21), (⟨"SwarmPlanner", "elsewhere", "()I"⟩, 21), (⟨"SwarmPlanner$Reader", "command", "()LSwarmPlanner$Command;"⟩, 6), (⟨"SwarmPlanner$Reader", "number", "()I"⟩, 6), (⟨"SwarmPlanner", "carriesOut", "(Ljava/util/ArrayList;)I"⟩, 21), (⟨"SwarmPlanner$Command", "isThere", "()Z"⟩, 4), (⟨"SwarmPlanner$Command", "cell", "()I"⟩, 4), (⟨"SwarmPlanner", "placeOf", "(LSwarmPlanner$Member;)I"⟩, 21), (⟨"SwarmPlanner", "given", "()I"⟩, 21), (⟨"SwarmPlanner", "distances", "()I"⟩, 21), (⟨"SwarmPlanner", "isFormed", "()Z"⟩, 21)]
theorem lw_r3 : ∀ q ∈ lw_privs_3, lw_okq q := List.forall_mem_cons.mpr ⟨lw_p32, List.forall_mem_cons.mpr ⟨lw_p33, List.forall_mem_cons.mpr ⟨lw_p34, List.forall_mem_cons.mpr ⟨lw_p35, List.forall_mem_cons.mpr ⟨lw_p36, List.forall_mem_cons.mpr ⟨lw_p37, List.forall_mem_cons.mpr ⟨lw_p38, List.forall_mem_cons.mpr ⟨lw_p39, List.forall_mem_cons.mpr ⟨lw_p40, List.forall_mem_cons.mpr ⟨lw_p41, List.forall_mem_cons.mpr ⟨lw_p42, List.forall_mem_cons.mpr ⟨lw_p43, List.forall_mem_cons.mpr ⟨lw_p44, List.forall_mem_cons.mpr ⟨lw_p45, List.forall_mem_cons.mpr ⟨lw_p46, List.forall_mem_cons.mpr ⟨lw_p47, fun _ h => absurd h List.not_mem_nil⟩⟩⟩⟩⟩⟩⟩⟩⟩⟩⟩⟩⟩⟩⟩⟩
theorem lw_p48 : lw_okq (⟨"SwarmPlanner", "slotAt", "(I)I"⟩, 21) := ⟨⟨by decide +kernel, by decide +kernel⟩, lw_t1 (List.mem_of_getElem? (i := 25) rfl), lw_t4 (List.mem_of_getElem? (i := 184) rfl), lw_t4 (List.mem_of_getElem? (i := 185) rfl)⟩
theorem lw_p49 : lw_okq (⟨"SwarmPlanner", "wayOf", "(II)I"⟩, 21) := ⟨⟨by decide +kernel, by decide +kernel⟩, lw_t1 (List.mem_of_getElem? (i := 25) rfl), lw_t4 (List.mem_of_getElem? (i := 188) rfl), lw_t4 (List.mem_of_getElem? (i := 189) rfl)⟩
theorem lw_p50 : lw_okq (⟨"SwarmPlanner", "openAround", "(I)I"⟩, 21) := ⟨⟨by decide +kernel, by decide +kernel⟩, lw_t1 (List.mem_of_getElem? (i := 25) rfl), lw_t4 (List.mem_of_getElem? (i := 192) rfl), lw_t4 (List.mem_of_getElem? (i := 193) rfl)⟩
theorem lw_p51 : lw_okq (⟨"SwarmPlanner", "isShape", "(I)Z"⟩, 21) := ⟨⟨by decide +kernel, by decide +kernel⟩, lw_t1 (List.mem_of_getElem? (i := 25) rfl), lw_t4 (List.mem_of_getElem? (i := 204) rfl), lw_t4 (List.mem_of_getElem? (i := 205) rfl)⟩
theorem lw_p52 : lw_okq (⟨"SwarmPlanner", "isSeen", "(LSwarmPlanner$Shape;I)Z"⟩, 21) := ⟨⟨by decide +kernel, by decide +kernel⟩, lw_t1 (List.mem_of_getElem? (i := 25) rfl), lw_t4 (List.mem_of_getElem? (i := 218) rfl), lw_t4 (List.mem_of_getElem? (i := 219) rfl)⟩
theorem lw_p53 : lw_okq (⟨"SwarmPlanner$Shape", "turnedColumn", "(II)I"⟩, 3) := ⟨⟨by decide +kernel, by decide +kernel⟩, lw_t3 (List.mem_of_getElem? (i := 33) rfl), lw_t4 (List.mem_of_getElem? (i := 226) rfl), lw_t4 (List.mem_of_getElem? (i := 227) rfl)⟩
theorem lw_p54 : lw_okq (⟨"SwarmPlanner$Shape", "turnedRow", "(II)I"⟩, 3) := ⟨⟨by decide +kernel, by decide +kernel⟩, lw_t3 (List.mem_of_getElem? (i := 33) rfl), lw_t4 (List.mem_of_getElem? (i := 230) rfl), lw_t4 (List.mem_of_getElem? (i := 231) rfl)⟩
theorem lw_p55 : lw_okq (⟨"SwarmPlanner", "thinks", "(II)I"⟩, 21) := ⟨⟨by decide +kernel, by decide +kernel⟩, lw_t1 (List.mem_of_getElem? (i := 25) rfl), lw_t4 (List.mem_of_getElem? (i := 239) rfl), lw_t5 (List.mem_of_getElem? (i := 0) rfl)⟩
theorem lw_p56 : lw_okq (⟨"SwarmPlanner", "formsWithin", "(I)I"⟩, 21) := ⟨⟨by decide +kernel, by decide +kernel⟩, lw_t1 (List.mem_of_getElem? (i := 25) rfl), lw_t5 (List.mem_of_getElem? (i := 3) rfl), lw_t5 (List.mem_of_getElem? (i := 4) rfl)⟩
theorem lw_p57 : lw_okq (⟨"SwarmPlanner", "goesOn", "(I)V"⟩, 21) := ⟨⟨by decide +kernel, by decide +kernel⟩, lw_t1 (List.mem_of_getElem? (i := 25) rfl), lw_t5 (List.mem_of_getElem? (i := 15) rfl), lw_t5 (List.mem_of_getElem? (i := 16) rfl)⟩
theorem lw_p58 : lw_okq (⟨"SwarmPlanner", "givesTo", "(II)V"⟩, 21) := ⟨⟨by decide +kernel, by decide +kernel⟩, lw_t1 (List.mem_of_getElem? (i := 25) rfl), lw_t5 (List.mem_of_getElem? (i := 19) rfl), lw_t5 (List.mem_of_getElem? (i := 20) rfl)⟩
theorem lw_p59 : lw_okq (⟨"SwarmPlanner", "shapes", "()I"⟩, 21) := ⟨⟨by decide +kernel, by decide +kernel⟩, lw_t1 (List.mem_of_getElem? (i := 25) rfl), lw_t5 (List.mem_of_getElem? (i := 49) rfl), lw_t5 (List.mem_of_getElem? (i := 50) rfl)⟩
theorem lw_p60 : lw_okq (⟨"SwarmPlannerModel", "leader", "()I"⟩, 25) := ⟨⟨by decide +kernel, by decide +kernel⟩, lw_t5 (List.mem_of_getElem? (i := 53) rfl), lw_t5 (List.mem_of_getElem? (i := 142) rfl), lw_t5 (List.mem_of_getElem? (i := 143) rfl)⟩
theorem lw_p61 : lw_okq (⟨"SwarmPlannerModel", "isMember", "(I)Z"⟩, 25) := ⟨⟨by decide +kernel, by decide +kernel⟩, lw_t5 (List.mem_of_getElem? (i := 53) rfl), lw_t5 (List.mem_of_getElem? (i := 146) rfl), lw_t5 (List.mem_of_getElem? (i := 147) rfl)⟩
theorem lw_p62 : lw_okq (⟨"SwarmPlannerModel", "of", "(II)I"⟩, 25) := ⟨⟨by decide +kernel, by decide +kernel⟩, lw_t5 (List.mem_of_getElem? (i := 53) rfl), lw_t5 (List.mem_of_getElem? (i := 150) rfl), lw_t5 (List.mem_of_getElem? (i := 151) rfl)⟩
theorem lw_p63 : lw_okq (⟨"SwarmPlannerModel", "keeps", "()V"⟩, 25) := ⟨⟨by decide +kernel, by decide +kernel⟩, lw_t5 (List.mem_of_getElem? (i := 53) rfl), lw_t5 (List.mem_of_getElem? (i := 154) rfl), lw_t5 (List.mem_of_getElem? (i := 155) rfl)⟩
def lw_privs_4 : List (MethodName × Nat) := [(⟨"SwarmPlanner", "slotAt", "(I)I"⟩, 21), (⟨"SwarmPlanner", "wayOf", "(II)I"⟩, 21), (⟨"SwarmPlanner", "openAround", "(I)I"⟩, 21), (⟨"SwarmPlanner", "isShape", "(I)Z"⟩, 21), (⟨"SwarmPlanner", "isSeen", "(LSwarmPlanner$Shape;I)Z"⟩, 21), (⟨"SwarmPlanner$Shape", "turnedColumn", "(II)I"⟩, 3), (⟨"SwarmPlanner$Shape", "turnedRow", "(II)I"⟩, 3), (⟨"SwarmPlanner", "thinks", "(II)I"⟩, 21), (⟨"SwarmPlanner", "formsWithin", "(I)I"⟩, 21), (⟨"SwarmPlanner", "goesOn", "(I)V"⟩, 21), (⟨"SwarmPlanner", "givesTo", "(II)V"⟩, 21), (⟨"SwarmPlanner", "shapes", "()I"⟩, 21), (⟨"SwarmPlannerModel", "leader", "()I"⟩, 25), (⟨"SwarmPlannerModel", "isMember", "(I)Z"⟩, 25), (⟨"SwarmPlannerModel", "of", "(II)I"⟩, 25), (⟨"SwarmPlannerModel", "keeps", "()V"⟩, 25)]
theorem lw_r4 : ∀ q ∈ lw_privs_4, lw_okq q := List.forall_mem_cons.mpr ⟨lw_p48, List.forall_mem_cons.mpr ⟨lw_p49, List.forall_mem_cons.mpr ⟨lw_p50, List.forall_mem_cons.mpr ⟨lw_p51, List.forall_mem_cons.mpr ⟨lw_p52, List.forall_mem_cons.mpr ⟨lw_p53, List.forall_mem_cons.mpr ⟨lw_p54, List.forall_mem_cons.mpr ⟨lw_p55, List.forall_mem_cons.mpr ⟨lw_p56, List.forall_mem_cons.mpr ⟨lw_p57, List.forall_mem_cons.mpr ⟨lw_p58, List.forall_mem_cons.mpr ⟨lw_p59, List.forall_mem_cons.mpr ⟨lw_p60, List.forall_mem_cons.mpr ⟨lw_p61, List.forall_mem_cons.mpr ⟨lw_p62, List.forall_mem_cons.mpr ⟨lw_p63, fun _ h => absurd h List.not_mem_nil⟩⟩⟩⟩⟩⟩⟩⟩⟩⟩⟩⟩⟩⟩⟩⟩
theorem lw_p64 : lw_okq (⟨"SwarmPlannerModel", "copies", "(II)V"⟩, 25) := ⟨⟨by decide +kernel, by decide +kernel⟩, lw_t5 (List.mem_of_getElem? (i := 53) rfl), lw_t5 (List.mem_of_getElem? (i := 158) rfl), lw_t5 (List.mem_of_getElem? (i := 159) rfl)⟩
theorem lw_p65 : lw_okq (⟨"SwarmPlannerModel", "makes", "(I)I"⟩, 25) := ⟨⟨by decide +kernel, by decide +kernel⟩, lw_t5 (List.mem_of_getElem? (i := 53) rfl), lw_t5 (List.mem_of_getElem? (i := 162) rfl), lw_t5 (List.mem_of_getElem? (i := 163) rfl)⟩
theorem lw_p66 : lw_okq (⟨"SwarmPlannerModel", "round", "()V"⟩, 25) := ⟨⟨by decide +kernel, by decide +kernel⟩, lw_t5 (List.mem_of_getElem? (i := 53) rfl), lw_t5 (List.mem_of_getElem? (i := 166) rfl), lw_t5 (List.mem_of_getElem? (i := 167) rfl)⟩
theorem lw_p67 : lw_okq (⟨"SwarmPlannerModel", "counts", "(II)V"⟩, 25) := ⟨⟨by decide +kernel, by decide +kernel⟩, lw_t5 (List.mem_of_getElem? (i := 53) rfl), lw_t5 (List.mem_of_getElem? (i := 170) rfl), lw_t5 (List.mem_of_getElem? (i := 171) rfl)⟩
theorem lw_p68 : lw_okq (⟨"SwarmPlannerModel", "leads", "()V"⟩, 25) := ⟨⟨by decide +kernel, by decide +kernel⟩, lw_t5 (List.mem_of_getElem? (i := 53) rfl), lw_t5 (List.mem_of_getElem? (i := 174) rfl), lw_t5 (List.mem_of_getElem? (i := 175) rfl)⟩
theorem lw_p69 : lw_okq (⟨"SwarmPlannerModel", "lays", "(III)V"⟩, 25) := ⟨⟨by decide +kernel, by decide +kernel⟩, lw_t5 (List.mem_of_getElem? (i := 53) rfl), lw_t5 (List.mem_of_getElem? (i := 178) rfl), lw_t5 (List.mem_of_getElem? (i := 179) rfl)⟩
theorem lw_p70 : lw_okq (⟨"SwarmPlannerModel", "floods", "(II)V"⟩, 25) := ⟨⟨by decide +kernel, by decide +kernel⟩, lw_t5 (List.mem_of_getElem? (i := 53) rfl), lw_t5 (List.mem_of_getElem? (i := 182) rfl), lw_t5 (List.mem_of_getElem? (i := 183) rfl)⟩
theorem lw_p71 : lw_okq (⟨"SwarmPlannerModel", "isBlocked", "(I)Z"⟩, 25) := ⟨⟨by decide +kernel, by decide +kernel⟩, lw_t5 (List.mem_of_getElem? (i := 53) rfl), lw_t5 (List.mem_of_getElem? (i := 186) rfl), lw_t5 (List.mem_of_getElem? (i := 187) rfl)⟩
theorem lw_p72 : lw_okq (⟨"SwarmPlannerModel", "on", "(I)I"⟩, 25) := ⟨⟨by decide +kernel, by decide +kernel⟩, lw_t5 (List.mem_of_getElem? (i := 53) rfl), lw_t5 (List.mem_of_getElem? (i := 193) rfl), lw_t5 (List.mem_of_getElem? (i := 194) rfl)⟩
theorem lw_p73 : lw_okq (⟨"SwarmPlannerModel", "waits", "(I)V"⟩, 25) := ⟨⟨by decide +kernel, by decide +kernel⟩, lw_t5 (List.mem_of_getElem? (i := 53) rfl), lw_t5 (List.mem_of_getElem? (i := 197) rfl), lw_t5 (List.mem_of_getElem? (i := 198) rfl)⟩
theorem lw_p74 : lw_okq (⟨"SwarmPlannerModel", "goes", "(II)V"⟩, 25) := ⟨⟨by decide +kernel, by decide +kernel⟩, lw_t5 (List.mem_of_getElem? (i := 53) rfl), lw_t5 (List.mem_of_getElem? (i := 201) rfl), lw_t5 (List.mem_of_getElem? (i := 202) rfl)⟩
theorem lw_p75 : lw_okq (⟨"SwarmPlannerModel", "gives", "()V"⟩, 25) := ⟨⟨by decide +kernel, by decide +kernel⟩, lw_t5 (List.mem_of_getElem? (i := 53) rfl), lw_t5 (List.mem_of_getElem? (i := 205) rfl), lw_t5 (List.mem_of_getElem? (i := 206) rfl)⟩
theorem lw_p76 : lw_okq (⟨"SwarmPlannerModel", "slots", "(I)I"⟩, 25) := ⟨⟨by decide +kernel, by decide +kernel⟩, lw_t5 (List.mem_of_getElem? (i := 53) rfl), lw_t5 (List.mem_of_getElem? (i := 209) rfl), lw_t5 (List.mem_of_getElem? (i := 210) rfl)⟩
theorem lw_p77 : lw_okq (⟨"SwarmPlannerModel", "anchor", "(I)I"⟩, 25) := ⟨⟨by decide +kernel, by decide +kernel⟩, lw_t5 (List.mem_of_getElem? (i := 53) rfl), lw_t5 (List.mem_of_getElem? (i := 216) rfl), lw_t5 (List.mem_of_getElem? (i := 217) rfl)⟩
theorem lw_p78 : lw_okq (⟨"SwarmPlannerModel", "placeOf", "(I)I"⟩, 25) := ⟨⟨by decide +kernel, by decide +kernel⟩, lw_t5 (List.mem_of_getElem? (i := 53) rfl), lw_t5 (List.mem_of_getElem? (i := 220) rfl), lw_t5 (List.mem_of_getElem? (i := 221) rfl)⟩
theorem lw_p79 : lw_okq (⟨"SwarmPlannerModel", "column", "(II)I"⟩, 25) := ⟨⟨by decide +kernel, by decide +kernel⟩, lw_t5 (List.mem_of_getElem? (i := 53) rfl), lw_t5 (List.mem_of_getElem? (i := 224) rfl), lw_t5 (List.mem_of_getElem? (i := 225) rfl)⟩
def lw_privs_5 : List (MethodName × Nat) := [(⟨"SwarmPlannerModel", "copies", "(II)V"⟩, 25), (⟨"SwarmPlannerModel", "makes", "(I)I"⟩, 25), (⟨"SwarmPlannerModel", "round", "()V"⟩, 25), (⟨"SwarmPlannerModel", "counts", "(II)V"⟩, 25), (⟨"SwarmPlannerModel", "leads", "()V"⟩, 25), (⟨"SwarmPlannerModel", "lays", "(III)V"⟩, 25), (⟨"SwarmPlannerModel", "floods", "(II)V"⟩, 25), (⟨"SwarmPlannerModel", "isBlocked", "(I)Z"⟩, 25), (⟨"SwarmPlannerModel", "on", "(I)I"⟩, 25), (⟨"SwarmPlannerModel", "waits", "(I)V"⟩, 25), (⟨"SwarmPlannerModel", "goes", "(II)V"⟩, 25), (⟨"SwarmPlannerModel", "gives", "()V"⟩, 25), (⟨"SwarmPlannerModel", "slots", "(I)I"⟩, 25), (⟨"SwarmPlannerModel", "anchor", "(I)I"⟩, 25), (⟨"SwarmPlannerModel", "placeOf", "(I)I"⟩, 25), (⟨"SwarmPlannerModel", "column", "(II)I"⟩, 25)]
theorem lw_r5 : ∀ q ∈ lw_privs_5, lw_okq q := List.forall_mem_cons.mpr ⟨lw_p64, List.forall_mem_cons.mpr ⟨lw_p65, List.forall_mem_cons.mpr ⟨lw_p66, List.forall_mem_cons.mpr ⟨lw_p67, List.forall_mem_cons.mpr ⟨lw_p68, List.forall_mem_cons.mpr ⟨lw_p69, List.forall_mem_cons.mpr ⟨lw_p70, List.forall_mem_cons.mpr ⟨lw_p71, List.forall_mem_cons.mpr ⟨lw_p72, List.forall_mem_cons.mpr ⟨lw_p73, List.forall_mem_cons.mpr ⟨lw_p74, List.forall_mem_cons.mpr ⟨lw_p75, List.forall_mem_cons.mpr ⟨lw_p76, List.forall_mem_cons.mpr ⟨lw_p77, List.forall_mem_cons.mpr ⟨lw_p78, List.forall_mem_cons.mpr ⟨lw_p79, fun _ h => absurd h List.not_mem_nil⟩⟩⟩⟩⟩⟩⟩⟩⟩⟩⟩⟩⟩⟩⟩⟩
theorem lw_p80 : lw_okq (⟨"SwarmPlannerModel", "rowOf", "(II)I"⟩, 25) := ⟨⟨by decide +kernel, by decide +kernel⟩, lw_t5 (List.mem_of_getElem? (i := 53) rfl), lw_t5 (List.mem_of_getElem? (i := 228) rfl), lw_t5 (List.mem_of_getElem? (i := 229) rfl)⟩
theorem lw_p81 : lw_okq (⟨"SwarmPlannerModel", "reckons", "(I)V"⟩, 25) := ⟨⟨by decide +kernel, by decide +kernel⟩, lw_t5 (List.mem_of_getElem? (i := 53) rfl), lw_t5 (List.mem_of_getElem? (i := 232) rfl), lw_t5 (List.mem_of_getElem? (i := 233) rfl)⟩
theorem lw_p82 : lw_okq (⟨"SwarmPlannerModel", "acts", "(I)V"⟩, 25) := ⟨⟨by decide +kernel, by decide +kernel⟩, lw_t5 (List.mem_of_getElem? (i := 53) rfl), lw_t5 (List.mem_of_getElem? (i := 236) rfl), lw_t5 (List.mem_of_getElem? (i := 237) rfl)⟩
theorem lw_p83 : lw_okq (⟨"SwarmPlannerModel", "steps", "(III)Z"⟩, 25) := ⟨⟨by decide +kernel, by decide +kernel⟩, lw_t5 (List.mem_of_getElem? (i := 53) rfl), lw_t6 (List.mem_of_getElem? (i := 0) rfl), lw_t6 (List.mem_of_getElem? (i := 1) rfl)⟩
theorem lw_p84 : lw_okq (⟨"SwarmPlannerModel", "exchanges", "(III)Z"⟩, 25) := ⟨⟨by decide +kernel, by decide +kernel⟩, lw_t5 (List.mem_of_getElem? (i := 53) rfl), lw_t6 (List.mem_of_getElem? (i := 4) rfl), lw_t6 (List.mem_of_getElem? (i := 5) rfl)⟩
theorem lw_p85 : lw_okq (⟨"SwarmPlannerModel", "mayExchange", "(III)Z"⟩, 25) := ⟨⟨by decide +kernel, by decide +kernel⟩, lw_t5 (List.mem_of_getElem? (i := 53) rfl), lw_t6 (List.mem_of_getElem? (i := 8) rfl), lw_t6 (List.mem_of_getElem? (i := 9) rfl)⟩
theorem lw_p86 : lw_okq (⟨"SwarmPlannerModel", "stepsAside", "(I)Z"⟩, 25) := ⟨⟨by decide +kernel, by decide +kernel⟩, lw_t5 (List.mem_of_getElem? (i := 53) rfl), lw_t6 (List.mem_of_getElem? (i := 12) rfl), lw_t6 (List.mem_of_getElem? (i := 13) rfl)⟩
theorem lw_p87 : lw_okq (⟨"SwarmPlannerModel", "opens", "(I)I"⟩, 25) := ⟨⟨by decide +kernel, by decide +kernel⟩, lw_t5 (List.mem_of_getElem? (i := 53) rfl), lw_t6 (List.mem_of_getElem? (i := 20) rfl), lw_t6 (List.mem_of_getElem? (i := 21) rfl)⟩
theorem lw_p88 : lw_okq (⟨"SwarmPlannerModel", "goesLost", "(I)I"⟩, 25) := ⟨⟨by decide +kernel, by decide +kernel⟩, lw_t5 (List.mem_of_getElem? (i := 53) rfl), lw_t6 (List.mem_of_getElem? (i := 28) rfl), lw_t6 (List.mem_of_getElem? (i := 29) rfl)⟩
theorem lw_p89 : lw_okq (⟨"SwarmPlannerModel", "members", "()I"⟩, 25) := ⟨⟨by decide +kernel, by decide +kernel⟩, lw_t5 (List.mem_of_getElem? (i := 53) rfl), lw_t6 (List.mem_of_getElem? (i := 32) rfl), lw_t6 (List.mem_of_getElem? (i := 33) rfl)⟩
theorem lw_p90 : lw_okq (⟨"SwarmPlannerModel", "turnsBlocked", "(I)I"⟩, 25) := ⟨⟨by decide +kernel, by decide +kernel⟩, lw_t5 (List.mem_of_getElem? (i := 53) rfl), lw_t6 (List.mem_of_getElem? (i := 51) rfl), lw_t6 (List.mem_of_getElem? (i := 52) rfl)⟩
theorem lw_p91 : lw_okq (⟨"SwarmPlannerModel", "readsShape", "()V"⟩, 25) := ⟨⟨by decide +kernel, by decide +kernel⟩, lw_t5 (List.mem_of_getElem? (i := 53) rfl), lw_t6 (List.mem_of_getElem? (i := 63) rfl), lw_t6 (List.mem_of_getElem? (i := 64) rfl)⟩
theorem lw_p92 : lw_okq (⟨"SwarmPlannerModel", "here", "()I"⟩, 25) := ⟨⟨by decide +kernel, by decide +kernel⟩, lw_t5 (List.mem_of_getElem? (i := 53) rfl), lw_t6 (List.mem_of_getElem? (i := 67) rfl), lw_t6 (List.mem_of_getElem? (i := 68) rfl)⟩
theorem lw_p93 : lw_okq (⟨"SwarmPlannerModel", "order", "()V"⟩, 25) := ⟨⟨by decide +kernel, by decide +kernel⟩, lw_t5 (List.mem_of_getElem? (i := 53) rfl), lw_t6 (List.mem_of_getElem? (i := 79) rfl), lw_t6 (List.mem_of_getElem? (i := 80) rfl)⟩
theorem lw_p94 : lw_okq (⟨"SwarmPlannerModel", "number", "()I"⟩, 25) := ⟨⟨by decide +kernel, by decide +kernel⟩, lw_t5 (List.mem_of_getElem? (i := 53) rfl), lw_t6 (List.mem_of_getElem? (i := 83) rfl), lw_t6 (List.mem_of_getElem? (i := 84) rfl)⟩
theorem lw_p95 : lw_okq (⟨"SwarmPlannerModel", "refusal", "(III)I"⟩, 25) := ⟨⟨by decide +kernel, by decide +kernel⟩, lw_t5 (List.mem_of_getElem? (i := 53) rfl), lw_t6 (List.mem_of_getElem? (i := 87) rfl), lw_t6 (List.mem_of_getElem? (i := 88) rfl)⟩
def lw_privs_6 : List (MethodName × Nat) := [(⟨"SwarmPlannerModel", "rowOf", "(II)I"⟩, 25), (⟨"SwarmPlannerModel", "reckons", "(I)V"⟩, 25), (⟨"SwarmPlannerModel", "acts", "(I)V"⟩, 25), (⟨"SwarmPlannerModel", "steps", "(III)Z"⟩, 25), (⟨"SwarmPlannerModel", "exchanges", "(III)Z"⟩, 25), (⟨"SwarmPlannerModel", "mayExchange", "(III)Z"⟩, 25), (⟨"SwarmPlannerModel", "stepsAside", "(I)Z"⟩, 25), (⟨"SwarmPlannerModel", "opens", "(I)I"⟩, 25), (⟨"SwarmPlannerModel", "goesLost", "(I)I"⟩, 25), (⟨"SwarmPlannerModel", "members", "()I"⟩, 25), (⟨"SwarmPlannerModel", "turnsBlocked", "(I)I"⟩, 25), (⟨"SwarmPlannerModel", "readsShape", "()V"⟩, 25), (⟨"SwarmPlannerModel", "here", "()I"⟩, 25), (⟨"SwarmPlannerModel", "order", "()V"⟩, 25), (⟨"SwarmPlannerModel", "number", "()I"⟩, 25), (⟨"SwarmPlannerModel", "refusal", "(III)I"⟩, 25)]
theorem lw_r6 : ∀ q ∈ lw_privs_6, lw_okq q := List.forall_mem_cons.mpr ⟨lw_p80, List.forall_mem_cons.mpr ⟨lw_p81, List.forall_mem_cons.mpr ⟨lw_p82, List.forall_mem_cons.mpr ⟨lw_p83, List.forall_mem_cons.mpr ⟨lw_p84, List.forall_mem_cons.mpr ⟨lw_p85, List.forall_mem_cons.mpr ⟨lw_p86, List.forall_mem_cons.mpr ⟨lw_p87, List.forall_mem_cons.mpr ⟨lw_p88, List.forall_mem_cons.mpr ⟨lw_p89, List.forall_mem_cons.mpr ⟨lw_p90, List.forall_mem_cons.mpr ⟨lw_p91, List.forall_mem_cons.mpr ⟨lw_p92, List.forall_mem_cons.mpr ⟨lw_p93, List.forall_mem_cons.mpr ⟨lw_p94, List.forall_mem_cons.mpr ⟨lw_p95, fun _ h => absurd h List.not_mem_nil⟩⟩⟩⟩⟩⟩⟩⟩⟩⟩⟩⟩⟩⟩⟩⟩
theorem lw_p96 : lw_okq (⟨"SwarmPlannerModel", "carries", "(III)V"⟩, 25) := ⟨⟨by decide +kernel, by decide +kernel⟩, lw_t5 (List.mem_of_getElem? (i := 53) rfl), lw_t6 (List.mem_of_getElem? (i := 91) rfl), lw_t6 (List.mem_of_getElem? (i := 92) rfl)⟩
theorem lw_p97 : lw_okq (⟨"SwarmPlannerModel", "isFormed", "()Z"⟩, 25) := ⟨⟨by decide +kernel, by decide +kernel⟩, lw_t5 (List.mem_of_getElem? (i := 53) rfl), lw_t6 (List.mem_of_getElem? (i := 107) rfl), lw_t6 (List.mem_of_getElem? (i := 108) rfl)⟩
theorem lw_p98 : lw_okq (⟨"SwarmPlannerModel", "slotAt", "(I)I"⟩, 25) := ⟨⟨by decide +kernel, by decide +kernel⟩, lw_t5 (List.mem_of_getElem? (i := 53) rfl), lw_t6 (List.mem_of_getElem? (i := 115) rfl), lw_t6 (List.mem_of_getElem? (i := 116) rfl)⟩
theorem lw_p99 : lw_okq (⟨"SwarmPlannerModel", "distanceOf", "(II)I"⟩, 25) := ⟨⟨by decide +kernel, by decide +kernel⟩, lw_t5 (List.mem_of_getElem? (i := 53) rfl), lw_t6 (List.mem_of_getElem? (i := 119) rfl), lw_t6 (List.mem_of_getElem? (i := 120) rfl)⟩
theorem lw_p100 : lw_okq (⟨"SwarmPlannerModel", "isLike", "(III)Z"⟩, 25) := ⟨⟨by decide +kernel, by decide +kernel⟩, lw_t5 (List.mem_of_getElem? (i := 53) rfl), lw_t6 (List.mem_of_getElem? (i := 135) rfl), lw_t6 (List.mem_of_getElem? (i := 136) rfl)⟩
theorem lw_p101 : lw_okq (⟨"SwarmPlannerModel", "turnsRound", "(III)V"⟩, 25) := ⟨⟨by decide +kernel, by decide +kernel⟩, lw_t5 (List.mem_of_getElem? (i := 53) rfl), lw_t6 (List.mem_of_getElem? (i := 139) rfl), lw_t6 (List.mem_of_getElem? (i := 140) rfl)⟩
theorem lw_p102 : lw_okq (⟨"SwarmPlannerModel", "forms", "(I)I"⟩, 25) := ⟨⟨by decide +kernel, by decide +kernel⟩, lw_t5 (List.mem_of_getElem? (i := 53) rfl), lw_t6 (List.mem_of_getElem? (i := 147) rfl), lw_t6 (List.mem_of_getElem? (i := 148) rfl)⟩
def lw_privs_7 : List (MethodName × Nat) := [(⟨"SwarmPlannerModel", "carries", "(III)V"⟩, 25), (⟨"SwarmPlannerModel", "isFormed", "()Z"⟩, 25), (⟨"SwarmPlannerModel", "slotAt", "(I)I"⟩, 25), (⟨"SwarmPlannerModel", "distanceOf", "(II)I"⟩, 25), (⟨"SwarmPlannerModel", "isLike", "(III)Z"⟩, 25), (⟨"SwarmPlannerModel", "turnsRound", "(III)V"⟩, 25), (⟨"SwarmPlannerModel", "forms", "(I)I"⟩, 25)]
theorem lw_r7 : ∀ q ∈ lw_privs_7, lw_okq q := List.forall_mem_cons.mpr ⟨lw_p96, List.forall_mem_cons.mpr ⟨lw_p97, List.forall_mem_cons.mpr ⟨lw_p98, List.forall_mem_cons.mpr ⟨lw_p99, List.forall_mem_cons.mpr ⟨lw_p100, List.forall_mem_cons.mpr ⟨lw_p101, List.forall_mem_cons.mpr ⟨lw_p102, fun _ h => absurd h List.not_mem_nil⟩⟩⟩⟩⟩⟩⟩
def lw_privs : List (MethodName × Nat) := lw_privs_1 ++ (lw_privs_2 ++ (lw_privs_3 ++ (lw_privs_4 ++ (lw_privs_5 ++ (lw_privs_6 ++ (lw_privs_7))))))
def lw_tbl : List Cond := k2_sels lw_privs ++ tables_1
theorem lw_privs_ok : ∀ q ∈ lw_privs, lw_okq q := by
  show ∀ q ∈ lw_privs_1 ++ (lw_privs_2 ++ (lw_privs_3 ++ (lw_privs_4 ++ (lw_privs_5 ++ (lw_privs_6 ++ (lw_privs_7)))))), lw_okq q
  exact List.forall_mem_append.mpr ⟨lw_r1, List.forall_mem_append.mpr ⟨lw_r2, List.forall_mem_append.mpr ⟨lw_r3, List.forall_mem_append.mpr ⟨lw_r4, List.forall_mem_append.mpr ⟨lw_r5, List.forall_mem_append.mpr ⟨lw_r6, lw_r7⟩⟩⟩⟩⟩⟩
-- ===== ONE list of words for every method: the tables' words that hold all through a run =====
def lw_all : List Cond := lw_tbl.filter goodWord
/-- a word of the tables by its place: claim/WORDS.tsv -/
theorem lw_w {w : Cond} (i : Nat) (h : lw_tbl[i]? = some w) (g : goodWord w = true) : w ∈ lw_all := List.mem_filter.mpr ⟨List.mem_of_getElem? h, g⟩
theorem lw_all_tbl {w : Cond} (h : w ∈ lw_all) : w ∈ lw_tbl := (List.mem_filter.mp h).1
theorem lw_self : GoodIn lw_all lw_all := fun w h => ⟨h, good_of_word (List.mem_filter.mp h).2⟩
/-- a class's field words, by their places -/
theorem lw_in (ws : List Cond) (ps : List Nat) (hp : ws = ps.filterMap (fun i => lw_tbl[i]?)) (hg : ws.all goodWord = true) : ∀ w ∈ ws, w ∈ lw_all := by
  intro w h
  have h1 := List.all_eq_true.mp hg w h
  rw [hp] at h
  obtain ⟨i, -, hi⟩ := List.mem_filterMap.mp h
  exact lw_w i hi h1
/-- the words of a contract for the method y with code b, L locals, answer r -/
abbrev ws_ (y : MethodName) (b : ByteArray) (L : Nat) (r : Option FieldType) : List Cond := Cond.code y b L r :: lw_all
theorem lw_meth {y : MethodName} {b : ByteArray} {L : Nat} {r : Option FieldType} (h : Cond.code y b L r ∈ lw_all) : GoodIn lw_all (ws_ y b L r) := by
  intro w hw
  rcases List.mem_cons.mp hw with e | e
  · rw [e]
    exact lw_self _ h
  · exact lw_self _ e
theorem lw_app {a c : List Cond} (ha : ∀ w ∈ a, w ∈ lw_all) (hc : GoodIn lw_all c) : GoodIn lw_all (a ++ c) := by
  intro w hw
  rcases List.mem_append.mp hw with e | e
  · exact lw_self w (ha w e)
  · exact hc w e
/-- what a call through an object asks: cwV n hts (lw_V ..) -/
theorem lw_V {own : String} {idx : Nat} {C : String} {y : MethodName} {b : ByteArray} {L : Nat} {r : Option FieldType} (h1 : Cond.methodLink own idx y ∈ lw_all) (h2 : Cond.instanceMethod y ∈ lw_all) (h3 : Cond.selects C y y ∈ lw_all) (h4 : Cond.initialized C ∈ lw_all) (h5 : Cond.code y b L r ∈ lw_all) : GoodIn lw_all (wsV own idx C y (ws_ y b L r)) := by
  refine lw_app ?_ (lw_meth h5)
  intro w hw
  simp only [List.mem_cons, List.not_mem_nil, or_false] at hw
  rcases hw with e | e | e | e
  · rw [e]; exact h1
  · rw [e]; exact h2
  · rw [e]; exact h3
  · rw [e]; exact h4
/-- what a static call asks: va_cwS n hts (lw_S ..) -/
theorem lw_S {own : String} {idx : Nat} {y : MethodName} {b : ByteArray} {L : Nat} {r : Option FieldType} (h1 : Cond.methodLink own idx y ∈ lw_all) (h2 : Cond.static y ∈ lw_all) (h3 : Cond.initialized y.cls ∈ lw_all) (h4 : Cond.code y b L r ∈ lw_all) : GoodIn lw_all (va_wsS own idx y (ws_ y b L r)) := by
  refine lw_app ?_ (lw_meth h4)
  intro w hw
  simp only [List.mem_cons, List.not_mem_nil, or_false] at hw
  rcases hw with e | e | e
  · rw [e]; exact h1
  · rw [e]; exact h2
  · rw [e]; exact h3
/-- the words of a contract for a method WITH HANDLERS (hh: its table) -/
abbrev wsW_ (y : MethodName) (b : ByteArray) (L : Nat) (r : Option FieldType) (hh : List (Nat × Nat × Nat × Nat)) : List Cond := Cond.codeWith y b L r hh :: lw_all
theorem lw_methW {y : MethodName} {b : ByteArray} {L : Nat} {r : Option FieldType} {hh : List (Nat × Nat × Nat × Nat)} (h : Cond.codeWith y b L r hh ∈ lw_all) : GoodIn lw_all (wsW_ y b L r hh) := by
  intro w hw
  rcases List.mem_cons.mp hw with e | e
  · rw [e]
    exact lw_self _ h
  · exact lw_self _ e
/-- any list of words by their places (lw_in), good -/
theorem lw_good {ws : List Cond} (h : ∀ w ∈ ws, w ∈ lw_all) : GoodIn lw_all ws := fun w hw => lw_self w (h w hw)
/-- what a call of a method with handlers asks: vx_cwVW n hts (lw_VW ..), vx_cwSW n hts (lw_SW ..) -/
theorem lw_VW {own : String} {idx : Nat} {C : String} {y : MethodName} {b : ByteArray} {L : Nat} {r : Option FieldType} {hh : List (Nat × Nat × Nat × Nat)} (h1 : Cond.methodLink own idx y ∈ lw_all) (h2 : Cond.instanceMethod y ∈ lw_all) (h3 : Cond.selects C y y ∈ lw_all) (h4 : Cond.initialized C ∈ lw_all) (h5 : Cond.codeWith y b L r hh ∈ lw_all) : GoodIn lw_all (wsV own idx C y (wsW_ y b L r hh)) := by
  refine lw_app ?_ (lw_methW h5)
  intro w hw
  simp only [List.mem_cons, List.not_mem_nil, or_false] at hw
  rcases hw with e | e | e | e
  · rw [e]; exact h1
  · rw [e]; exact h2
  · rw [e]; exact h3
  · rw [e]; exact h4
theorem lw_SW {own : String} {idx : Nat} {y : MethodName} {b : ByteArray} {L : Nat} {r : Option FieldType} {hh : List (Nat × Nat × Nat × Nat)} (h1 : Cond.methodLink own idx y ∈ lw_all) (h2 : Cond.static y ∈ lw_all) (h3 : Cond.initialized y.cls ∈ lw_all) (h4 : Cond.codeWith y b L r hh ∈ lw_all) : GoodIn lw_all (va_wsS own idx y (wsW_ y b L r hh)) := by
  refine lw_app ?_ (lw_methW h4)
  intro w hw
  simp only [List.mem_cons, List.not_mem_nil, or_false] at hw
  rcases hw with e | e | e
  · rw [e]; exact h1
  · rw [e]; exact h2
  · rw [e]; exact h3
/-- a word by its place in its run of the tables -/
theorem lw_at {r : List Cond} (hr : ∀ w ∈ r, w ∈ lw_tbl) {w : Cond} (i : Nat) (h : r[i]? = some w) : w ∈ lw_tbl := hr w (List.mem_of_getElem? h)
theorem lw_g {w : Cond} (h : w ∈ lw_tbl) (g : goodWord w = true) : w ∈ lw_all := List.mem_filter.mpr ⟨h, g⟩
theorem lw_ms : ∀ w ∈ k2_sels lw_privs, w ∈ lw_tbl := fun w h => show w ∈ k2_sels lw_privs ++ tables_1 from List.mem_append_left _ h
theorem lw_m1 : ∀ w ∈ tables_1_1, w ∈ lw_tbl := fun w h => show w ∈ k2_sels lw_privs ++ tables_1 from List.mem_append_right (k2_sels lw_privs) (show w ∈ tables_1 from List.mem_append_left _ h)
theorem lw_m2 : ∀ w ∈ tables_1_2, w ∈ lw_tbl := fun w h => show w ∈ k2_sels lw_privs ++ tables_1 from List.mem_append_right (k2_sels lw_privs) (show w ∈ tables_1 from List.mem_append_right _ (List.mem_append_left _ h))
theorem lw_m3 : ∀ w ∈ tables_1_3, w ∈ lw_tbl := fun w h => show w ∈ k2_sels lw_privs ++ tables_1 from List.mem_append_right (k2_sels lw_privs) (show w ∈ tables_1 from List.mem_append_right _ (List.mem_append_right _ (List.mem_append_left _ h)))
theorem lw_m4 : ∀ w ∈ tables_1_4, w ∈ lw_tbl := fun w h => show w ∈ k2_sels lw_privs ++ tables_1 from List.mem_append_right (k2_sels lw_privs) (show w ∈ tables_1 from List.mem_append_right _ (List.mem_append_right _ (List.mem_append_right _ (List.mem_append_left _ h))))
theorem lw_m5 : ∀ w ∈ tables_1_5, w ∈ lw_tbl := fun w h => show w ∈ k2_sels lw_privs ++ tables_1 from List.mem_append_right (k2_sels lw_privs) (show w ∈ tables_1 from List.mem_append_right _ (List.mem_append_right _ (List.mem_append_right _ (List.mem_append_right _ (List.mem_append_left _ h)))))
theorem lw_m6 : ∀ w ∈ tables_1_6, w ∈ lw_tbl := fun w h => show w ∈ k2_sels lw_privs ++ tables_1 from List.mem_append_right (k2_sels lw_privs) (show w ∈ tables_1 from List.mem_append_right _ (List.mem_append_right _ (List.mem_append_right _ (List.mem_append_right _ (List.mem_append_right _ h)))))
theorem qs0 : (Cond.selects "SwarmPlanner" ⟨"SwarmPlanner", "againstAdding", "(II)I"⟩ ⟨"SwarmPlanner", "againstAdding", "(II)I"⟩) ∈ lw_all := lw_g (lw_at lw_ms 0 rfl) rfl
theorem qs1 : (Cond.selects "SwarmPlanner" ⟨"SwarmPlanner", "added", "()I"⟩ ⟨"SwarmPlanner", "added", "()I"⟩) ∈ lw_all := lw_g (lw_at lw_ms 1 rfl) rfl
theorem qs2 : (Cond.selects "SwarmPlanner" ⟨"SwarmPlanner", "changes", "()V"⟩ ⟨"SwarmPlanner", "changes", "()V"⟩) ∈ lw_all := lw_g (lw_at lw_ms 2 rfl) rfl
theorem qs3 : (Cond.selects "java/util/ArrayList" ⟨"java/util/ArrayList", "add", "(Ljava/lang/Object;[Ljava/lang/Object;I)V"⟩ ⟨"java/util/ArrayList", "add", "(Ljava/lang/Object;[Ljava/lang/Object;I)V"⟩) ∈ lw_all := lw_g (lw_at lw_ms 3 rfl) rfl
theorem qs4 : (Cond.selects "java/util/ArrayList" ⟨"java/util/ArrayList", "grow", "()[Ljava/lang/Object;"⟩ ⟨"java/util/ArrayList", "grow", "()[Ljava/lang/Object;"⟩) ∈ lw_all := lw_g (lw_at lw_ms 4 rfl) rfl
theorem qs5 : (Cond.selects "java/util/ArrayList" ⟨"java/util/ArrayList", "grow", "(I)[Ljava/lang/Object;"⟩ ⟨"java/util/ArrayList", "grow", "(I)[Ljava/lang/Object;"⟩) ∈ lw_all := lw_g (lw_at lw_ms 5 rfl) rfl
theorem qs6 : (Cond.selects "java/util/ArrayList" ⟨"java/util/ArrayList", "fastRemove", "([Ljava/lang/Object;I)V"⟩ ⟨"java/util/ArrayList", "fastRemove", "([Ljava/lang/Object;I)V"⟩) ∈ lw_all := lw_g (lw_at lw_ms 6 rfl) rfl
theorem qs7 : (Cond.selects "SwarmPlanner" ⟨"SwarmPlanner", "adds", "(II)I"⟩ ⟨"SwarmPlanner", "adds", "(II)I"⟩) ∈ lw_all := lw_g (lw_at lw_ms 7 rfl) rfl
theorem qs8 : (Cond.selects "SwarmPlanner" ⟨"SwarmPlanner", "turns", "(I)I"⟩ ⟨"SwarmPlanner", "turns", "(I)I"⟩) ∈ lw_all := lw_g (lw_at lw_ms 8 rfl) rfl
theorem qs9 : (Cond.selects "SwarmPlanner$Reader" ⟨"SwarmPlanner$Reader", "shapeRow", "(I)V"⟩ ⟨"SwarmPlanner$Reader", "shapeRow", "(I)V"⟩) ∈ lw_all := lw_g (lw_at lw_ms 9 rfl) rfl
theorem qs10 : (Cond.selects "SwarmPlanner$Reader" ⟨"SwarmPlanner$Reader", "isSlot", "()Z"⟩ ⟨"SwarmPlanner$Reader", "isSlot", "()Z"⟩) ∈ lw_all := lw_g (lw_at lw_ms 10 rfl) rfl
theorem qs11 : (Cond.selects "SwarmPlanner$Reader" ⟨"SwarmPlanner$Reader", "sign", "()I"⟩ ⟨"SwarmPlanner$Reader", "sign", "()I"⟩) ∈ lw_all := lw_g (lw_at lw_ms 11 rfl) rfl
theorem qs12 : (Cond.selects "SwarmPlanner$Reader" ⟨"SwarmPlanner$Reader", "need", "(Z)V"⟩ ⟨"SwarmPlanner$Reader", "need", "(Z)V"⟩) ∈ lw_all := lw_g (lw_at lw_ms 12 rfl) rfl
theorem qs13 : (Cond.selects "java/lang/Throwable" ⟨"java/lang/Throwable", "fillInStackTrace", "(I)Ljava/lang/Throwable;"⟩ ⟨"java/lang/Throwable", "fillInStackTrace", "(I)Ljava/lang/Throwable;"⟩) ∈ lw_all := lw_g (lw_at lw_ms 13 rfl) rfl
theorem qs14 : (Cond.selects "SwarmPlanner" ⟨"SwarmPlanner", "notesCells", "()V"⟩ ⟨"SwarmPlanner", "notesCells", "()V"⟩) ∈ lw_all := lw_g (lw_at lw_ms 14 rfl) rfl
theorem qs15 : (Cond.selects "SwarmPlanner" ⟨"SwarmPlanner", "makes", "(I)V"⟩ ⟨"SwarmPlanner", "makes", "(I)V"⟩) ∈ lw_all := lw_g (lw_at lw_ms 15 rfl) rfl
theorem qs16 : (Cond.selects "SwarmPlanner" ⟨"SwarmPlanner", "round", "()V"⟩ ⟨"SwarmPlanner", "round", "()V"⟩) ∈ lw_all := lw_g (lw_at lw_ms 16 rfl) rfl
theorem qs17 : (Cond.selects "SwarmPlanner" ⟨"SwarmPlanner", "leaderActs", "(LSwarmPlanner$Member;)I"⟩ ⟨"SwarmPlanner", "leaderActs", "(LSwarmPlanner$Member;)I"⟩) ∈ lw_all := lw_g (lw_at lw_ms 17 rfl) rfl
theorem qs18 : (Cond.selects "SwarmPlanner" ⟨"SwarmPlanner", "lays", "(I[I)V"⟩ ⟨"SwarmPlanner", "lays", "(I[I)V"⟩) ∈ lw_all := lw_g (lw_at lw_ms 18 rfl) rfl
theorem qs19 : (Cond.selects "SwarmPlanner" ⟨"SwarmPlanner", "steps", "(LSwarmPlanner$Member;I)V"⟩ ⟨"SwarmPlanner", "steps", "(LSwarmPlanner$Member;I)V"⟩) ∈ lw_all := lw_g (lw_at lw_ms 19 rfl) rfl
theorem qs20 : (Cond.selects "SwarmPlanner" ⟨"SwarmPlanner", "waits", "(LSwarmPlanner$Member;)V"⟩ ⟨"SwarmPlanner", "waits", "(LSwarmPlanner$Member;)V"⟩) ∈ lw_all := lw_g (lw_at lw_ms 20 rfl) rfl
theorem qs21 : (Cond.selects "SwarmPlanner" ⟨"SwarmPlanner", "gives", "()V"⟩ ⟨"SwarmPlanner", "gives", "()V"⟩) ∈ lw_all := lw_g (lw_at lw_ms 21 rfl) rfl
theorem qs22 : (Cond.selects "SwarmPlanner" ⟨"SwarmPlanner", "laysPlaces", "()V"⟩ ⟨"SwarmPlanner", "laysPlaces", "()V"⟩) ∈ lw_all := lw_g (lw_at lw_ms 22 rfl) rfl
theorem qs23 : (Cond.selects "SwarmPlanner$Chain" ⟨"SwarmPlanner$Chain", "sum", "(I)I"⟩ ⟨"SwarmPlanner$Chain", "sum", "(I)I"⟩) ∈ lw_all := lw_g (lw_at lw_ms 23 rfl) rfl
theorem qs24 : (Cond.selects "SwarmPlanner" ⟨"SwarmPlanner", "isGiveable", "(IILSwarmPlanner$Member;)Z"⟩ ⟨"SwarmPlanner", "isGiveable", "(IILSwarmPlanner$Member;)Z"⟩) ∈ lw_all := lw_g (lw_at lw_ms 24 rfl) rfl
theorem qs25 : (Cond.selects "SwarmPlanner$Chain" ⟨"SwarmPlanner$Chain", "with", "(II)I"⟩ ⟨"SwarmPlanner$Chain", "with", "(II)I"⟩) ∈ lw_all := lw_g (lw_at lw_ms 25 rfl) rfl
theorem qs26 : (Cond.selects "SwarmPlanner" ⟨"SwarmPlanner", "begins", "(LSwarmPlanner$Member;I)V"⟩ ⟨"SwarmPlanner", "begins", "(LSwarmPlanner$Member;I)V"⟩) ∈ lw_all := lw_g (lw_at lw_ms 26 rfl) rfl
theorem qs27 : (Cond.selects "SwarmPlanner" ⟨"SwarmPlanner", "distanceOf", "(LSwarmPlanner$Member;)I"⟩ ⟨"SwarmPlanner", "distanceOf", "(LSwarmPlanner$Member;)I"⟩) ∈ lw_all := lw_g (lw_at lw_ms 27 rfl) rfl
theorem qs28 : (Cond.selects "java/util/PriorityQueue" ⟨"java/util/PriorityQueue", "grow", "(I)V"⟩ ⟨"java/util/PriorityQueue", "grow", "(I)V"⟩) ∈ lw_all := lw_g (lw_at lw_ms 28 rfl) rfl
theorem qs29 : (Cond.selects "java/util/PriorityQueue" ⟨"java/util/PriorityQueue", "siftUp", "(ILjava/lang/Object;)V"⟩ ⟨"java/util/PriorityQueue", "siftUp", "(ILjava/lang/Object;)V"⟩) ∈ lw_all := lw_g (lw_at lw_ms 29 rfl) rfl
theorem qs30 : (Cond.selects "SwarmPlanner" ⟨"SwarmPlanner", "acts", "(LSwarmPlanner$Member;)V"⟩ ⟨"SwarmPlanner", "acts", "(LSwarmPlanner$Member;)V"⟩) ∈ lw_all := lw_g (lw_at lw_ms 30 rfl) rfl
theorem qs31 : (Cond.selects "SwarmPlanner" ⟨"SwarmPlanner", "freeFor", "(LSwarmPlanner$Member;)I"⟩ ⟨"SwarmPlanner", "freeFor", "(LSwarmPlanner$Member;)I"⟩) ∈ lw_all := lw_g (lw_at lw_ms 31 rfl) rfl
theorem qs32 : (Cond.selects "SwarmPlanner" ⟨"SwarmPlanner", "isGood", "(LSwarmPlanner$Member;I)Z"⟩ ⟨"SwarmPlanner", "isGood", "(LSwarmPlanner$Member;I)Z"⟩) ∈ lw_all := lw_g (lw_at lw_ms 32 rfl) rfl
theorem qs33 : (Cond.selects "SwarmPlanner" ⟨"SwarmPlanner", "partnerOf", "(LSwarmPlanner$Member;)LSwarmPlanner$Member;"⟩ ⟨"SwarmPlanner", "partnerOf", "(LSwarmPlanner$Member;)LSwarmPlanner$Member;"⟩) ∈ lw_all := lw_g (lw_at lw_ms 33 rfl) rfl
theorem qs34 : (Cond.selects "SwarmPlanner" ⟨"SwarmPlanner", "gains", "(LSwarmPlanner$Member;LSwarmPlanner$Member;)Z"⟩ ⟨"SwarmPlanner", "gains", "(LSwarmPlanner$Member;LSwarmPlanner$Member;)Z"⟩) ∈ lw_all := lw_g (lw_at lw_ms 34 rfl) rfl
theorem qs35 : (Cond.selects "SwarmPlanner" ⟨"SwarmPlanner", "waitsOrGoes", "(LSwarmPlanner$Member;)I"⟩ ⟨"SwarmPlanner", "waitsOrGoes", "(LSwarmPlanner$Member;)I"⟩) ∈ lw_all := lw_g (lw_at lw_ms 35 rfl) rfl
theorem qs36 : (Cond.selects "SwarmPlanner" ⟨"SwarmPlanner", "asideOf", "(LSwarmPlanner$Member;)I"⟩ ⟨"SwarmPlanner", "asideOf", "(LSwarmPlanner$Member;)I"⟩) ∈ lw_all := lw_g (lw_at lw_ms 36 rfl) rfl
theorem qs37 : (Cond.selects "SwarmPlanner" ⟨"SwarmPlanner", "isExchanged", "(LSwarmPlanner$Member;)V"⟩ ⟨"SwarmPlanner", "isExchanged", "(LSwarmPlanner$Member;)V"⟩) ∈ lw_all := lw_g (lw_at lw_ms 37 rfl) rfl
theorem qs38 : (Cond.selects "SwarmPlanner" ⟨"SwarmPlanner", "elsewhere", "()I"⟩ ⟨"SwarmPlanner", "elsewhere", "()I"⟩) ∈ lw_all := lw_g (lw_at lw_ms 38 rfl) rfl
theorem qs39 : (Cond.selects "SwarmPlanner$Reader" ⟨"SwarmPlanner$Reader", "command", "()LSwarmPlanner$Command;"⟩ ⟨"SwarmPlanner$Reader", "command", "()LSwarmPlanner$Command;"⟩) ∈ lw_all := lw_g (lw_at lw_ms 39 rfl) rfl
theorem qs40 : (Cond.selects "SwarmPlanner$Reader" ⟨"SwarmPlanner$Reader", "number", "()I"⟩ ⟨"SwarmPlanner$Reader", "number", "()I"⟩) ∈ lw_all := lw_g (lw_at lw_ms 40 rfl) rfl
theorem qs41 : (Cond.selects "SwarmPlanner" ⟨"SwarmPlanner", "carriesOut", "(Ljava/util/ArrayList;)I"⟩ ⟨"SwarmPlanner", "carriesOut", "(Ljava/util/ArrayList;)I"⟩) ∈ lw_all := lw_g (lw_at lw_ms 41 rfl) rfl
theorem qs42 : (Cond.selects "SwarmPlanner$Command" ⟨"SwarmPlanner$Command", "isThere", "()Z"⟩ ⟨"SwarmPlanner$Command", "isThere", "()Z"⟩) ∈ lw_all := lw_g (lw_at lw_ms 42 rfl) rfl
theorem qs43 : (Cond.selects "SwarmPlanner$Command" ⟨"SwarmPlanner$Command", "cell", "()I"⟩ ⟨"SwarmPlanner$Command", "cell", "()I"⟩) ∈ lw_all := lw_g (lw_at lw_ms 43 rfl) rfl
theorem qs44 : (Cond.selects "SwarmPlanner" ⟨"SwarmPlanner", "placeOf", "(LSwarmPlanner$Member;)I"⟩ ⟨"SwarmPlanner", "placeOf", "(LSwarmPlanner$Member;)I"⟩) ∈ lw_all := lw_g (lw_at lw_ms 44 rfl) rfl
theorem qs45 : (Cond.selects "SwarmPlanner" ⟨"SwarmPlanner", "given", "()I"⟩ ⟨"SwarmPlanner", "given", "()I"⟩) ∈ lw_all := lw_g (lw_at lw_ms 45 rfl) rfl
theorem qs46 : (Cond.selects "SwarmPlanner" ⟨"SwarmPlanner", "distances", "()I"⟩ ⟨"SwarmPlanner", "distances", "()I"⟩) ∈ lw_all := lw_g (lw_at lw_ms 46 rfl) rfl
theorem qs47 : (Cond.selects "SwarmPlanner" ⟨"SwarmPlanner", "isFormed", "()Z"⟩ ⟨"SwarmPlanner", "isFormed", "()Z"⟩) ∈ lw_all := lw_g (lw_at lw_ms 47 rfl) rfl
theorem qs48 : (Cond.selects "SwarmPlanner" ⟨"SwarmPlanner", "slotAt", "(I)I"⟩ ⟨"SwarmPlanner", "slotAt", "(I)I"⟩) ∈ lw_all := lw_g (lw_at lw_ms 48 rfl) rfl
theorem qs49 : (Cond.selects "SwarmPlanner" ⟨"SwarmPlanner", "wayOf", "(II)I"⟩ ⟨"SwarmPlanner", "wayOf", "(II)I"⟩) ∈ lw_all := lw_g (lw_at lw_ms 49 rfl) rfl
theorem qs50 : (Cond.selects "SwarmPlanner" ⟨"SwarmPlanner", "openAround", "(I)I"⟩ ⟨"SwarmPlanner", "openAround", "(I)I"⟩) ∈ lw_all := lw_g (lw_at lw_ms 50 rfl) rfl
theorem qs51 : (Cond.selects "SwarmPlanner" ⟨"SwarmPlanner", "isShape", "(I)Z"⟩ ⟨"SwarmPlanner", "isShape", "(I)Z"⟩) ∈ lw_all := lw_g (lw_at lw_ms 51 rfl) rfl
theorem qs52 : (Cond.selects "SwarmPlanner" ⟨"SwarmPlanner", "isSeen", "(LSwarmPlanner$Shape;I)Z"⟩ ⟨"SwarmPlanner", "isSeen", "(LSwarmPlanner$Shape;I)Z"⟩) ∈ lw_all := lw_g (lw_at lw_ms 52 rfl) rfl
theorem qs53 : (Cond.selects "SwarmPlanner$Shape" ⟨"SwarmPlanner$Shape", "turnedColumn", "(II)I"⟩ ⟨"SwarmPlanner$Shape", "turnedColumn", "(II)I"⟩) ∈ lw_all := lw_g (lw_at lw_ms 53 rfl) rfl
theorem qs54 : (Cond.selects "SwarmPlanner$Shape" ⟨"SwarmPlanner$Shape", "turnedRow", "(II)I"⟩ ⟨"SwarmPlanner$Shape", "turnedRow", "(II)I"⟩) ∈ lw_all := lw_g (lw_at lw_ms 54 rfl) rfl
theorem qs55 : (Cond.selects "SwarmPlanner" ⟨"SwarmPlanner", "thinks", "(II)I"⟩ ⟨"SwarmPlanner", "thinks", "(II)I"⟩) ∈ lw_all := lw_g (lw_at lw_ms 55 rfl) rfl
theorem qs56 : (Cond.selects "SwarmPlanner" ⟨"SwarmPlanner", "formsWithin", "(I)I"⟩ ⟨"SwarmPlanner", "formsWithin", "(I)I"⟩) ∈ lw_all := lw_g (lw_at lw_ms 56 rfl) rfl
theorem qs57 : (Cond.selects "SwarmPlanner" ⟨"SwarmPlanner", "goesOn", "(I)V"⟩ ⟨"SwarmPlanner", "goesOn", "(I)V"⟩) ∈ lw_all := lw_g (lw_at lw_ms 57 rfl) rfl
theorem qs58 : (Cond.selects "SwarmPlanner" ⟨"SwarmPlanner", "givesTo", "(II)V"⟩ ⟨"SwarmPlanner", "givesTo", "(II)V"⟩) ∈ lw_all := lw_g (lw_at lw_ms 58 rfl) rfl
theorem qs59 : (Cond.selects "SwarmPlanner" ⟨"SwarmPlanner", "shapes", "()I"⟩ ⟨"SwarmPlanner", "shapes", "()I"⟩) ∈ lw_all := lw_g (lw_at lw_ms 59 rfl) rfl
theorem qs60 : (Cond.selects "SwarmPlannerModel" ⟨"SwarmPlannerModel", "leader", "()I"⟩ ⟨"SwarmPlannerModel", "leader", "()I"⟩) ∈ lw_all := lw_g (lw_at lw_ms 60 rfl) rfl
theorem qs61 : (Cond.selects "SwarmPlannerModel" ⟨"SwarmPlannerModel", "isMember", "(I)Z"⟩ ⟨"SwarmPlannerModel", "isMember", "(I)Z"⟩) ∈ lw_all := lw_g (lw_at lw_ms 61 rfl) rfl
theorem qs62 : (Cond.selects "SwarmPlannerModel" ⟨"SwarmPlannerModel", "of", "(II)I"⟩ ⟨"SwarmPlannerModel", "of", "(II)I"⟩) ∈ lw_all := lw_g (lw_at lw_ms 62 rfl) rfl
theorem qs63 : (Cond.selects "SwarmPlannerModel" ⟨"SwarmPlannerModel", "keeps", "()V"⟩ ⟨"SwarmPlannerModel", "keeps", "()V"⟩) ∈ lw_all := lw_g (lw_at lw_ms 63 rfl) rfl
theorem qs64 : (Cond.selects "SwarmPlannerModel" ⟨"SwarmPlannerModel", "copies", "(II)V"⟩ ⟨"SwarmPlannerModel", "copies", "(II)V"⟩) ∈ lw_all := lw_g (lw_at lw_ms 64 rfl) rfl
theorem qs65 : (Cond.selects "SwarmPlannerModel" ⟨"SwarmPlannerModel", "makes", "(I)I"⟩ ⟨"SwarmPlannerModel", "makes", "(I)I"⟩) ∈ lw_all := lw_g (lw_at lw_ms 65 rfl) rfl
theorem qs66 : (Cond.selects "SwarmPlannerModel" ⟨"SwarmPlannerModel", "round", "()V"⟩ ⟨"SwarmPlannerModel", "round", "()V"⟩) ∈ lw_all := lw_g (lw_at lw_ms 66 rfl) rfl
theorem qs67 : (Cond.selects "SwarmPlannerModel" ⟨"SwarmPlannerModel", "counts", "(II)V"⟩ ⟨"SwarmPlannerModel", "counts", "(II)V"⟩) ∈ lw_all := lw_g (lw_at lw_ms 67 rfl) rfl
theorem qs68 : (Cond.selects "SwarmPlannerModel" ⟨"SwarmPlannerModel", "leads", "()V"⟩ ⟨"SwarmPlannerModel", "leads", "()V"⟩) ∈ lw_all := lw_g (lw_at lw_ms 68 rfl) rfl
theorem qs69 : (Cond.selects "SwarmPlannerModel" ⟨"SwarmPlannerModel", "lays", "(III)V"⟩ ⟨"SwarmPlannerModel", "lays", "(III)V"⟩) ∈ lw_all := lw_g (lw_at lw_ms 69 rfl) rfl
theorem qs70 : (Cond.selects "SwarmPlannerModel" ⟨"SwarmPlannerModel", "floods", "(II)V"⟩ ⟨"SwarmPlannerModel", "floods", "(II)V"⟩) ∈ lw_all := lw_g (lw_at lw_ms 70 rfl) rfl
theorem qs71 : (Cond.selects "SwarmPlannerModel" ⟨"SwarmPlannerModel", "isBlocked", "(I)Z"⟩ ⟨"SwarmPlannerModel", "isBlocked", "(I)Z"⟩) ∈ lw_all := lw_g (lw_at lw_ms 71 rfl) rfl
theorem qs72 : (Cond.selects "SwarmPlannerModel" ⟨"SwarmPlannerModel", "on", "(I)I"⟩ ⟨"SwarmPlannerModel", "on", "(I)I"⟩) ∈ lw_all := lw_g (lw_at lw_ms 72 rfl) rfl
theorem qs73 : (Cond.selects "SwarmPlannerModel" ⟨"SwarmPlannerModel", "waits", "(I)V"⟩ ⟨"SwarmPlannerModel", "waits", "(I)V"⟩) ∈ lw_all := lw_g (lw_at lw_ms 73 rfl) rfl
theorem qs74 : (Cond.selects "SwarmPlannerModel" ⟨"SwarmPlannerModel", "goes", "(II)V"⟩ ⟨"SwarmPlannerModel", "goes", "(II)V"⟩) ∈ lw_all := lw_g (lw_at lw_ms 74 rfl) rfl
theorem qs75 : (Cond.selects "SwarmPlannerModel" ⟨"SwarmPlannerModel", "gives", "()V"⟩ ⟨"SwarmPlannerModel", "gives", "()V"⟩) ∈ lw_all := lw_g (lw_at lw_ms 75 rfl) rfl
theorem qs76 : (Cond.selects "SwarmPlannerModel" ⟨"SwarmPlannerModel", "slots", "(I)I"⟩ ⟨"SwarmPlannerModel", "slots", "(I)I"⟩) ∈ lw_all := lw_g (lw_at lw_ms 76 rfl) rfl
theorem qs77 : (Cond.selects "SwarmPlannerModel" ⟨"SwarmPlannerModel", "anchor", "(I)I"⟩ ⟨"SwarmPlannerModel", "anchor", "(I)I"⟩) ∈ lw_all := lw_g (lw_at lw_ms 77 rfl) rfl
theorem qs78 : (Cond.selects "SwarmPlannerModel" ⟨"SwarmPlannerModel", "placeOf", "(I)I"⟩ ⟨"SwarmPlannerModel", "placeOf", "(I)I"⟩) ∈ lw_all := lw_g (lw_at lw_ms 78 rfl) rfl
theorem qs79 : (Cond.selects "SwarmPlannerModel" ⟨"SwarmPlannerModel", "column", "(II)I"⟩ ⟨"SwarmPlannerModel", "column", "(II)I"⟩) ∈ lw_all := lw_g (lw_at lw_ms 79 rfl) rfl
theorem qs80 : (Cond.selects "SwarmPlannerModel" ⟨"SwarmPlannerModel", "rowOf", "(II)I"⟩ ⟨"SwarmPlannerModel", "rowOf", "(II)I"⟩) ∈ lw_all := lw_g (lw_at lw_ms 80 rfl) rfl
theorem qs81 : (Cond.selects "SwarmPlannerModel" ⟨"SwarmPlannerModel", "reckons", "(I)V"⟩ ⟨"SwarmPlannerModel", "reckons", "(I)V"⟩) ∈ lw_all := lw_g (lw_at lw_ms 81 rfl) rfl
theorem qs82 : (Cond.selects "SwarmPlannerModel" ⟨"SwarmPlannerModel", "acts", "(I)V"⟩ ⟨"SwarmPlannerModel", "acts", "(I)V"⟩) ∈ lw_all := lw_g (lw_at lw_ms 82 rfl) rfl
theorem qs83 : (Cond.selects "SwarmPlannerModel" ⟨"SwarmPlannerModel", "steps", "(III)Z"⟩ ⟨"SwarmPlannerModel", "steps", "(III)Z"⟩) ∈ lw_all := lw_g (lw_at lw_ms 83 rfl) rfl
theorem qs84 : (Cond.selects "SwarmPlannerModel" ⟨"SwarmPlannerModel", "exchanges", "(III)Z"⟩ ⟨"SwarmPlannerModel", "exchanges", "(III)Z"⟩) ∈ lw_all := lw_g (lw_at lw_ms 84 rfl) rfl
theorem qs85 : (Cond.selects "SwarmPlannerModel" ⟨"SwarmPlannerModel", "mayExchange", "(III)Z"⟩ ⟨"SwarmPlannerModel", "mayExchange", "(III)Z"⟩) ∈ lw_all := lw_g (lw_at lw_ms 85 rfl) rfl
theorem qs86 : (Cond.selects "SwarmPlannerModel" ⟨"SwarmPlannerModel", "stepsAside", "(I)Z"⟩ ⟨"SwarmPlannerModel", "stepsAside", "(I)Z"⟩) ∈ lw_all := lw_g (lw_at lw_ms 86 rfl) rfl
theorem qs87 : (Cond.selects "SwarmPlannerModel" ⟨"SwarmPlannerModel", "opens", "(I)I"⟩ ⟨"SwarmPlannerModel", "opens", "(I)I"⟩) ∈ lw_all := lw_g (lw_at lw_ms 87 rfl) rfl
theorem qs88 : (Cond.selects "SwarmPlannerModel" ⟨"SwarmPlannerModel", "goesLost", "(I)I"⟩ ⟨"SwarmPlannerModel", "goesLost", "(I)I"⟩) ∈ lw_all := lw_g (lw_at lw_ms 88 rfl) rfl
theorem qs89 : (Cond.selects "SwarmPlannerModel" ⟨"SwarmPlannerModel", "members", "()I"⟩ ⟨"SwarmPlannerModel", "members", "()I"⟩) ∈ lw_all := lw_g (lw_at lw_ms 89 rfl) rfl
theorem qs90 : (Cond.selects "SwarmPlannerModel" ⟨"SwarmPlannerModel", "turnsBlocked", "(I)I"⟩ ⟨"SwarmPlannerModel", "turnsBlocked", "(I)I"⟩) ∈ lw_all := lw_g (lw_at lw_ms 90 rfl) rfl
theorem qs91 : (Cond.selects "SwarmPlannerModel" ⟨"SwarmPlannerModel", "readsShape", "()V"⟩ ⟨"SwarmPlannerModel", "readsShape", "()V"⟩) ∈ lw_all := lw_g (lw_at lw_ms 91 rfl) rfl
theorem qs92 : (Cond.selects "SwarmPlannerModel" ⟨"SwarmPlannerModel", "here", "()I"⟩ ⟨"SwarmPlannerModel", "here", "()I"⟩) ∈ lw_all := lw_g (lw_at lw_ms 92 rfl) rfl
theorem qs93 : (Cond.selects "SwarmPlannerModel" ⟨"SwarmPlannerModel", "order", "()V"⟩ ⟨"SwarmPlannerModel", "order", "()V"⟩) ∈ lw_all := lw_g (lw_at lw_ms 93 rfl) rfl
theorem qs94 : (Cond.selects "SwarmPlannerModel" ⟨"SwarmPlannerModel", "number", "()I"⟩ ⟨"SwarmPlannerModel", "number", "()I"⟩) ∈ lw_all := lw_g (lw_at lw_ms 94 rfl) rfl
theorem qs95 : (Cond.selects "SwarmPlannerModel" ⟨"SwarmPlannerModel", "refusal", "(III)I"⟩ ⟨"SwarmPlannerModel", "refusal", "(III)I"⟩) ∈ lw_all := lw_g (lw_at lw_ms 95 rfl) rfl
theorem qs96 : (Cond.selects "SwarmPlannerModel" ⟨"SwarmPlannerModel", "carries", "(III)V"⟩ ⟨"SwarmPlannerModel", "carries", "(III)V"⟩) ∈ lw_all := lw_g (lw_at lw_ms 96 rfl) rfl
theorem qs97 : (Cond.selects "SwarmPlannerModel" ⟨"SwarmPlannerModel", "isFormed", "()Z"⟩ ⟨"SwarmPlannerModel", "isFormed", "()Z"⟩) ∈ lw_all := lw_g (lw_at lw_ms 97 rfl) rfl
theorem qs98 : (Cond.selects "SwarmPlannerModel" ⟨"SwarmPlannerModel", "slotAt", "(I)I"⟩ ⟨"SwarmPlannerModel", "slotAt", "(I)I"⟩) ∈ lw_all := lw_g (lw_at lw_ms 98 rfl) rfl
theorem qs99 : (Cond.selects "SwarmPlannerModel" ⟨"SwarmPlannerModel", "distanceOf", "(II)I"⟩ ⟨"SwarmPlannerModel", "distanceOf", "(II)I"⟩) ∈ lw_all := lw_g (lw_at lw_ms 99 rfl) rfl
theorem qs100 : (Cond.selects "SwarmPlannerModel" ⟨"SwarmPlannerModel", "isLike", "(III)Z"⟩ ⟨"SwarmPlannerModel", "isLike", "(III)Z"⟩) ∈ lw_all := lw_g (lw_at lw_ms 100 rfl) rfl
theorem qs101 : (Cond.selects "SwarmPlannerModel" ⟨"SwarmPlannerModel", "turnsRound", "(III)V"⟩ ⟨"SwarmPlannerModel", "turnsRound", "(III)V"⟩) ∈ lw_all := lw_g (lw_at lw_ms 101 rfl) rfl
theorem qs102 : (Cond.selects "SwarmPlannerModel" ⟨"SwarmPlannerModel", "forms", "(I)I"⟩ ⟨"SwarmPlannerModel", "forms", "(I)I"⟩) ∈ lw_all := lw_g (lw_at lw_ms 102 rfl) rfl
