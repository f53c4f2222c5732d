-- ===== PART A: goes FIRST, ahead of the names: the tables' words, and 'selects' of the private methods out of them =====
/-- a private method of a class that the tables say can be made, by its rows of tables_1 -/
def lw_okq (q : MethodName × Nat) : Prop := (q.1.cls ≠ "java/lang/invoke/MethodHandle" ∧ q.1.cls ≠ "java/lang/invoke/VarHandle") ∧ Cond.instantiable q.1.cls q.2 ∈ tables_1 ∧ Cond.privateMethod q.1 ∈ tables_1 ∧ Cond.instanceMethod q.1 ∈ tables_1
set_option maxRecDepth 100000
theorem lw_t1 {w : Cond} (h : w ∈ tables_1_1) : w ∈ tables_1 := List.mem_append_left _ h
theorem lw_t2 {w : Cond} (h : w ∈ tables_1_2) : w ∈ tables_1 := List.mem_append_right _ (List.mem_append_left _ h)
theorem lw_t3 {w : Cond} (h : w ∈ tables_1_3) : w ∈ tables_1 := List.mem_append_right _ (List.mem_append_right _ (List.mem_append_left _ h))
theorem lw_t4 {w : Cond} (h : w ∈ tables_1_4) : w ∈ tables_1 := List.mem_append_right _ (List.mem_append_right _ (List.mem_append_right _ (List.mem_append_left _ h)))
theorem lw_t5 {w : Cond} (h : w ∈ tables_1_5) : w ∈ tables_1 := List.mem_append_right _ (List.mem_append_right _ (List.mem_append_right _ (List.mem_append_right _ h)))
theorem lw_p0 : lw_okq (⟨"NettedPlans", "await", "(LNettedPlans$Item;)V"⟩, 10) := ⟨⟨by decide +kernel, by decide +kernel⟩, lw_t1 (List.mem_of_getElem? (i := 31) rfl), lw_t2 (List.mem_of_getElem? (i := 22) rfl), lw_t2 (List.mem_of_getElem? (i := 23) rfl)⟩
theorem lw_p1 : lw_okq (⟨"java/util/ArrayList", "add", "(Ljava/lang/Object;[Ljava/lang/Object;I)V"⟩, 3) := ⟨⟨by decide +kernel, by decide +kernel⟩, lw_t1 (List.mem_of_getElem? (i := 41) rfl), lw_t2 (List.mem_of_getElem? (i := 34) rfl), lw_t2 (List.mem_of_getElem? (i := 35) rfl)⟩
theorem lw_p2 : lw_okq (⟨"java/util/ArrayList", "grow", "()[Ljava/lang/Object;"⟩, 3) := ⟨⟨by decide +kernel, by decide +kernel⟩, lw_t1 (List.mem_of_getElem? (i := 41) rfl), lw_t2 (List.mem_of_getElem? (i := 38) rfl), lw_t2 (List.mem_of_getElem? (i := 39) rfl)⟩
theorem lw_p3 : lw_okq (⟨"java/util/ArrayList", "grow", "(I)[Ljava/lang/Object;"⟩, 3) := ⟨⟨by decide +kernel, by decide +kernel⟩, lw_t1 (List.mem_of_getElem? (i := 41) rfl), lw_t2 (List.mem_of_getElem? (i := 42) rfl), lw_t2 (List.mem_of_getElem? (i := 43) rfl)⟩
theorem lw_p4 : lw_okq (⟨"NettedPlans$Waits", "swap", "(II)V"⟩, 1) := ⟨⟨by decide +kernel, by decide +kernel⟩, lw_t1 (List.mem_of_getElem? (i := 121) rfl), lw_t2 (List.mem_of_getElem? (i := 122) rfl), lw_t2 (List.mem_of_getElem? (i := 123) rfl)⟩
theorem lw_p5 : lw_okq (⟨"java/util/ArrayList", "fastRemove", "([Ljava/lang/Object;I)V"⟩, 3) := ⟨⟨by decide +kernel, by decide +kernel⟩, lw_t1 (List.mem_of_getElem? (i := 41) rfl), lw_t2 (List.mem_of_getElem? (i := 146) rfl), lw_t2 (List.mem_of_getElem? (i := 147) rfl)⟩
theorem lw_p6 : lw_okq (⟨"NettedPlans$Waits", "least", "(I)I"⟩, 1) := ⟨⟨by decide +kernel, by decide +kernel⟩, lw_t1 (List.mem_of_getElem? (i := 121) rfl), lw_t2 (List.mem_of_getElem? (i := 151) rfl), lw_t2 (List.mem_of_getElem? (i := 152) rfl)⟩
theorem lw_p7 : lw_okq (⟨"NettedPlans", "grows", "(LNettedPlans$Item;)Z"⟩, 10) := ⟨⟨by decide +kernel, by decide +kernel⟩, lw_t1 (List.mem_of_getElem? (i := 31) rfl), lw_t2 (List.mem_of_getElem? (i := 159) rfl), lw_t2 (List.mem_of_getElem? (i := 160) rfl)⟩
theorem lw_p8 : lw_okq (⟨"NettedPlans", "asks", "(LNettedPlans$Item;I)J"⟩, 10) := ⟨⟨by decide +kernel, by decide +kernel⟩, lw_t1 (List.mem_of_getElem? (i := 31) rfl), lw_t2 (List.mem_of_getElem? (i := 170) rfl), lw_t2 (List.mem_of_getElem? (i := 171) rfl)⟩
theorem lw_p9 : lw_okq (⟨"NettedPlans", "net", "(LNettedPlans$Item;)V"⟩, 10) := ⟨⟨by decide +kernel, by decide +kernel⟩, lw_t1 (List.mem_of_getElem? (i := 31) rfl), lw_t2 (List.mem_of_getElem? (i := 194) rfl), lw_t2 (List.mem_of_getElem? (i := 195) rfl)⟩
theorem lw_p10 : lw_okq (⟨"NettedPlans$LeastCost", "look", "(LNettedPlans$Item;I)V"⟩, 2) := ⟨⟨by decide +kernel, by decide +kernel⟩, lw_t1 (List.mem_of_getElem? (i := 106) rfl), lw_t2 (List.mem_of_getElem? (i := 209) rfl), lw_t2 (List.mem_of_getElem? (i := 210) rfl)⟩
theorem lw_p11 : lw_okq (⟨"NettedPlans", "of", "(I)LNettedPlans$Item;"⟩, 10) := ⟨⟨by decide +kernel, by decide +kernel⟩, lw_t1 (List.mem_of_getElem? (i := 31) rfl), lw_t3 (List.mem_of_getElem? (i := 11) rfl), lw_t3 (List.mem_of_getElem? (i := 12) rfl)⟩
theorem lw_p12 : lw_okq (⟨"java/lang/Throwable", "fillInStackTrace", "(I)Ljava/lang/Throwable;"⟩, 6) := ⟨⟨by decide +kernel, by decide +kernel⟩, lw_t3 (List.mem_of_getElem? (i := 59) rfl), lw_t3 (List.mem_of_getElem? (i := 57) rfl), lw_t3 (List.mem_of_getElem? (i := 58) rfl)⟩
theorem lw_p13 : lw_okq (⟨"NettedPlans", "tell", "(LNettedPlans$Item;)V"⟩, 10) := ⟨⟨by decide +kernel, by decide +kernel⟩, lw_t1 (List.mem_of_getElem? (i := 31) rfl), lw_t3 (List.mem_of_getElem? (i := 102) rfl), lw_t3 (List.mem_of_getElem? (i := 103) rfl)⟩
theorem lw_p14 : lw_okq (⟨"NettedPlans", "find", "(LNettedPlans$Item;LNettedPlans$Item;)I"⟩, 10) := ⟨⟨by decide +kernel, by decide +kernel⟩, lw_t1 (List.mem_of_getElem? (i := 31) rfl), lw_t3 (List.mem_of_getElem? (i := 129) rfl), lw_t3 (List.mem_of_getElem? (i := 130) rfl)⟩
theorem lw_p15 : lw_okq (⟨"NettedPlans", "levelled", "(LNettedPlans$Item;LNettedPlans$Item;)Z"⟩, 10) := ⟨⟨by decide +kernel, by decide +kernel⟩, lw_t1 (List.mem_of_getElem? (i := 31) rfl), lw_t3 (List.mem_of_getElem? (i := 133) rfl), lw_t3 (List.mem_of_getElem? (i := 134) rfl)⟩
def lw_privs_1 : List (MethodName × Nat) := [(⟨"NettedPlans", "await", "(LNettedPlans$Item;)V"⟩, 10), (⟨"java/util/ArrayList", "add", "(Ljava/lang/Object;[Ljava/lang/Object;I)V"⟩, 3), (⟨"java/util/ArrayList", "grow", "()[Ljava/lang/Object;"⟩, 3), (⟨"java/util/ArrayList", "grow", "(I)[Ljava/lang/Object;"⟩, 3), (⟨"NettedPlans$Waits", "swap", "(II)V"⟩, 1), (⟨"java/util/ArrayList", "fastRemove", "([Ljava/lang/Object;I)V"⟩, 3), (⟨"NettedPlans$Waits", "least", "(I)I"⟩, 1), (⟨"NettedPlans", "grows", "(LNettedPlans$Item;)Z"⟩, 10), (⟨"NettedPlans", "asks", "(LNettedPlans$Item;I)J"⟩, 10), (⟨"NettedPlans", "net", "(LNettedPlans$Item;)V"⟩, 10), (⟨"NettedPlans$LeastCost", "look", "(LNettedPlans$Item;I)V"⟩, 2), (⟨"NettedPlans", "of", "(I)LNettedPlans$Item;"⟩, 10), (⟨"java/lang/Throwable", "fillInStackTrace", "(I)Ljava/lang/Throwable;"⟩, 6), (⟨"NettedPlans", "tell", "(LNettedPlans$Item;)V"⟩, 10), (⟨"NettedPlans", "find", "(LNettedPlans$Item;LNettedPlans$Item;)I"⟩, 10), (⟨"NettedPlans", "levelled", "(LNettedPlans$Item;LNettedPlans$Item;)Z"⟩, 10)]
theorem lw_r1 : ∀ q ∈ lw_privs_1, lw_okq q := List.forall_mem_cons.mpr ⟨lw_p0, List.forall_mem_cons.mpr ⟨lw_p1, List.forall_mem_cons.mpr ⟨lw_p2, List.forall_mem_cons.mpr ⟨lw_p3, List.forall_mem_cons.mpr ⟨lw_p4, List.forall_mem_cons.mpr ⟨lw_p5, List.forall_mem_cons.mpr ⟨lw_p6, List.forall_mem_cons.mpr ⟨lw_p7, List.forall_mem_cons.mpr ⟨lw_p8, List.forall_mem_cons.mpr ⟨lw_p9, List.forall_mem_cons.mpr ⟨lw_p10, List.forall_mem_cons.mpr ⟨lw_p11, List.forall_mem_cons.mpr ⟨lw_p12, List.forall_mem_cons.mpr ⟨lw_p13, List.forall_mem_cons.mpr ⟨lw_p14, List.forall_mem_cons.mpr ⟨lw_p15, fun _ h => absurd h List.not_mem_nil⟩⟩⟩⟩⟩⟩⟩⟩⟩⟩⟩⟩⟩⟩⟩⟩
theorem lw_p16 : lw_okq (⟨"NettedPlans", "raise", "(LNettedPlans$Item;LNettedPlans$Item;)Z"⟩, 10) := ⟨⟨by decide +kernel, by decide +kernel⟩, lw_t1 (List.mem_of_getElem? (i := 31) rfl), lw_t3 (List.mem_of_getElem? (i := 137) rfl), lw_t3 (List.mem_of_getElem? (i := 138) rfl)⟩
theorem lw_p17 : lw_okq (⟨"NettedPlans", "keepLevels", "()V"⟩, 10) := ⟨⟨by decide +kernel, by decide +kernel⟩, lw_t1 (List.mem_of_getElem? (i := 31) rfl), lw_t3 (List.mem_of_getElem? (i := 182) rfl), lw_t3 (List.mem_of_getElem? (i := 183) rfl)⟩
theorem lw_p18 : lw_okq (⟨"NettedPlans", "enter", "(LNettedPlans$Book;III)I"⟩, 10) := ⟨⟨by decide +kernel, by decide +kernel⟩, lw_t1 (List.mem_of_getElem? (i := 31) rfl), lw_t3 (List.mem_of_getElem? (i := 200) rfl), lw_t3 (List.mem_of_getElem? (i := 201) rfl)⟩
theorem lw_p19 : lw_okq (⟨"NettedPlans", "current", "(I)LNettedPlans$Item;"⟩, 10) := ⟨⟨by decide +kernel, by decide +kernel⟩, lw_t1 (List.mem_of_getElem? (i := 31) rfl), lw_t4 (List.mem_of_getElem? (i := 29) rfl), lw_t4 (List.mem_of_getElem? (i := 30) rfl)⟩
theorem lw_p20 : lw_okq (⟨"NettedPlans", "claimedBefore", "(LNettedPlans$Item;I)J"⟩, 10) := ⟨⟨by decide +kernel, by decide +kernel⟩, lw_t1 (List.mem_of_getElem? (i := 31) rfl), lw_t4 (List.mem_of_getElem? (i := 54) rfl), lw_t4 (List.mem_of_getElem? (i := 55) rfl)⟩
theorem lw_p21 : lw_okq (⟨"NettedPlans", "suppliedBefore", "(LNettedPlans$Item;I)J"⟩, 10) := ⟨⟨by decide +kernel, by decide +kernel⟩, lw_t1 (List.mem_of_getElem? (i := 31) rfl), lw_t4 (List.mem_of_getElem? (i := 68) rfl), lw_t4 (List.mem_of_getElem? (i := 69) rfl)⟩
theorem lw_p22 : lw_okq (⟨"NettedPlans", "isTrue", "(LNettedPlans$Item;II)Z"⟩, 10) := ⟨⟨by decide +kernel, by decide +kernel⟩, lw_t1 (List.mem_of_getElem? (i := 31) rfl), lw_t4 (List.mem_of_getElem? (i := 79) rfl), lw_t4 (List.mem_of_getElem? (i := 80) rfl)⟩
theorem lw_p23 : lw_okq (⟨"NettedPlansModel", "refused", "(I)Z"⟩, 27) := ⟨⟨by decide +kernel, by decide +kernel⟩, lw_t4 (List.mem_of_getElem? (i := 115) rfl), lw_t4 (List.mem_of_getElem? (i := 218) rfl), lw_t4 (List.mem_of_getElem? (i := 219) rfl)⟩
theorem lw_p24 : lw_okq (⟨"NettedPlansModel", "tell", "(I)V"⟩, 27) := ⟨⟨by decide +kernel, by decide +kernel⟩, lw_t4 (List.mem_of_getElem? (i := 115) rfl), lw_t4 (List.mem_of_getElem? (i := 222) rfl), lw_t4 (List.mem_of_getElem? (i := 223) rfl)⟩
theorem lw_p25 : lw_okq (⟨"NettedPlansModel", "setLine", "(IIII)V"⟩, 27) := ⟨⟨by decide +kernel, by decide +kernel⟩, lw_t4 (List.mem_of_getElem? (i := 115) rfl), lw_t4 (List.mem_of_getElem? (i := 239) rfl), lw_t5 (List.mem_of_getElem? (i := 0) rfl)⟩
theorem lw_p26 : lw_okq (⟨"NettedPlansModel", "isSound", "()Z"⟩, 27) := ⟨⟨by decide +kernel, by decide +kernel⟩, lw_t4 (List.mem_of_getElem? (i := 115) rfl), lw_t5 (List.mem_of_getElem? (i := 3) rfl), lw_t5 (List.mem_of_getElem? (i := 4) rfl)⟩
theorem lw_p27 : lw_okq (⟨"NettedPlansModel", "levelOf", "(I)I"⟩, 27) := ⟨⟨by decide +kernel, by decide +kernel⟩, lw_t4 (List.mem_of_getElem? (i := 115) rfl), lw_t5 (List.mem_of_getElem? (i := 7) rfl), lw_t5 (List.mem_of_getElem? (i := 8) rfl)⟩
theorem lw_p28 : lw_okq (⟨"NettedPlansModel", "addTold", "(IIII)I"⟩, 27) := ⟨⟨by decide +kernel, by decide +kernel⟩, lw_t4 (List.mem_of_getElem? (i := 115) rfl), lw_t5 (List.mem_of_getElem? (i := 19) rfl), lw_t5 (List.mem_of_getElem? (i := 20) rfl)⟩
theorem lw_p29 : lw_okq (⟨"NettedPlansModel", "add", "(IIII)I"⟩, 27) := ⟨⟨by decide +kernel, by decide +kernel⟩, lw_t4 (List.mem_of_getElem? (i := 115) rfl), lw_t5 (List.mem_of_getElem? (i := 23) rfl), lw_t5 (List.mem_of_getElem? (i := 24) rfl)⟩
theorem lw_p30 : lw_okq (⟨"NettedPlansModel", "net", "(I)Z"⟩, 27) := ⟨⟨by decide +kernel, by decide +kernel⟩, lw_t4 (List.mem_of_getElem? (i := 115) rfl), lw_t5 (List.mem_of_getElem? (i := 39) rfl), lw_t5 (List.mem_of_getElem? (i := 40) rfl)⟩
theorem lw_p31 : lw_okq (⟨"NettedPlansModel", "grossOf", "(II)J"⟩, 27) := ⟨⟨by decide +kernel, by decide +kernel⟩, lw_t4 (List.mem_of_getElem? (i := 115) rfl), lw_t5 (List.mem_of_getElem? (i := 43) rfl), lw_t5 (List.mem_of_getElem? (i := 44) rfl)⟩
def lw_privs_2 : List (MethodName × Nat) := [(⟨"NettedPlans", "raise", "(LNettedPlans$Item;LNettedPlans$Item;)Z"⟩, 10), (⟨"NettedPlans", "keepLevels", "()V"⟩, 10), (⟨"NettedPlans", "enter", "(LNettedPlans$Book;III)I"⟩, 10), (⟨"NettedPlans", "current", "(I)LNettedPlans$Item;"⟩, 10), (⟨"NettedPlans", "claimedBefore", "(LNettedPlans$Item;I)J"⟩, 10), (⟨"NettedPlans", "suppliedBefore", "(LNettedPlans$Item;I)J"⟩, 10), (⟨"NettedPlans", "isTrue", "(LNettedPlans$Item;II)Z"⟩, 10), (⟨"NettedPlansModel", "refused", "(I)Z"⟩, 27), (⟨"NettedPlansModel", "tell", "(I)V"⟩, 27), (⟨"NettedPlansModel", "setLine", "(IIII)V"⟩, 27), (⟨"NettedPlansModel", "isSound", "()Z"⟩, 27), (⟨"NettedPlansModel", "levelOf", "(I)I"⟩, 27), (⟨"NettedPlansModel", "addTold", "(IIII)I"⟩, 27), (⟨"NettedPlansModel", "add", "(IIII)I"⟩, 27), (⟨"NettedPlansModel", "net", "(I)Z"⟩, 27), (⟨"NettedPlansModel", "grossOf", "(II)J"⟩, 27)]
theorem lw_r2 : ∀ q ∈ lw_privs_2, lw_okq q := List.forall_mem_cons.mpr ⟨lw_p16, List.forall_mem_cons.mpr ⟨lw_p17, List.forall_mem_cons.mpr ⟨lw_p18, List.forall_mem_cons.mpr ⟨lw_p19, List.forall_mem_cons.mpr ⟨lw_p20, List.forall_mem_cons.mpr ⟨lw_p21, List.forall_mem_cons.mpr ⟨lw_p22, List.forall_mem_cons.mpr ⟨lw_p23, List.forall_mem_cons.mpr ⟨lw_p24, List.forall_mem_cons.mpr ⟨lw_p25, List.forall_mem_cons.mpr ⟨lw_p26, List.forall_mem_cons.mpr ⟨lw_p27, List.forall_mem_cons.mpr ⟨lw_p28, List.forall_mem_cons.mpr ⟨lw_p29, List.forall_mem_cons.mpr ⟨lw_p30, List.forall_mem_cons.mpr ⟨lw_p31, fun _ h => absurd h List.not_mem_nil⟩⟩⟩⟩⟩⟩⟩⟩⟩⟩⟩⟩⟩⟩⟩⟩
theorem lw_p32 : lw_okq (⟨"NettedPlansModel", "sumOf", "(III)J"⟩, 27) := ⟨⟨by decide +kernel, by decide +kernel⟩, lw_t4 (List.mem_of_getElem? (i := 115) rfl), lw_t5 (List.mem_of_getElem? (i := 47) rfl), lw_t5 (List.mem_of_getElem? (i := 48) rfl)⟩
theorem lw_p33 : lw_okq (⟨"NettedPlansModel", "asks", "(II)J"⟩, 27) := ⟨⟨by decide +kernel, by decide +kernel⟩, lw_t4 (List.mem_of_getElem? (i := 115) rfl), lw_t5 (List.mem_of_getElem? (i := 51) rfl), lw_t5 (List.mem_of_getElem? (i := 52) rfl)⟩
theorem lw_p34 : lw_okq (⟨"NettedPlansModel", "plan", "(I)V"⟩, 27) := ⟨⟨by decide +kernel, by decide +kernel⟩, lw_t4 (List.mem_of_getElem? (i := 115) rfl), lw_t5 (List.mem_of_getElem? (i := 57) rfl), lw_t5 (List.mem_of_getElem? (i := 58) rfl)⟩
theorem lw_p35 : lw_okq (⟨"NettedPlansModel", "findNeeds", "(I)V"⟩, 27) := ⟨⟨by decide +kernel, by decide +kernel⟩, lw_t4 (List.mem_of_getElem? (i := 115) rfl), lw_t5 (List.mem_of_getElem? (i := 61) rfl), lw_t5 (List.mem_of_getElem? (i := 62) rfl)⟩
theorem lw_p36 : lw_okq (⟨"NettedPlansModel", "bare", "(II)J"⟩, 27) := ⟨⟨by decide +kernel, by decide +kernel⟩, lw_t4 (List.mem_of_getElem? (i := 115) rfl), lw_t5 (List.mem_of_getElem? (i := 65) rfl), lw_t5 (List.mem_of_getElem? (i := 66) rfl)⟩
theorem lw_p37 : lw_okq (⟨"NettedPlansModel", "findBest", "(I)V"⟩, 27) := ⟨⟨by decide +kernel, by decide +kernel⟩, lw_t4 (List.mem_of_getElem? (i := 115) rfl), lw_t5 (List.mem_of_getElem? (i := 72) rfl), lw_t5 (List.mem_of_getElem? (i := 73) rfl)⟩
theorem lw_p38 : lw_okq (⟨"NettedPlansModel", "lastOf", "(II)I"⟩, 27) := ⟨⟨by decide +kernel, by decide +kernel⟩, lw_t4 (List.mem_of_getElem? (i := 115) rfl), lw_t5 (List.mem_of_getElem? (i := 76) rfl), lw_t5 (List.mem_of_getElem? (i := 77) rfl)⟩
theorem lw_p39 : lw_okq (⟨"NettedPlansModel", "cost", "(III)J"⟩, 27) := ⟨⟨by decide +kernel, by decide +kernel⟩, lw_t4 (List.mem_of_getElem? (i := 115) rfl), lw_t5 (List.mem_of_getElem? (i := 80) rfl), lw_t5 (List.mem_of_getElem? (i := 81) rfl)⟩
theorem lw_p40 : lw_okq (⟨"NettedPlansModel", "needOf", "(I)J"⟩, 27) := ⟨⟨by decide +kernel, by decide +kernel⟩, lw_t4 (List.mem_of_getElem? (i := 115) rfl), lw_t5 (List.mem_of_getElem? (i := 84) rfl), lw_t5 (List.mem_of_getElem? (i := 85) rfl)⟩
theorem lw_p41 : lw_okq (⟨"NettedPlansModel", "lot", "(IIJ)J"⟩, 27) := ⟨⟨by decide +kernel, by decide +kernel⟩, lw_t4 (List.mem_of_getElem? (i := 115) rfl), lw_t5 (List.mem_of_getElem? (i := 88) rfl), lw_t5 (List.mem_of_getElem? (i := 89) rfl)⟩
theorem lw_p42 : lw_okq (⟨"NettedPlansModel", "isWrong", "(II)Z"⟩, 27) := ⟨⟨by decide +kernel, by decide +kernel⟩, lw_t4 (List.mem_of_getElem? (i := 115) rfl), lw_t5 (List.mem_of_getElem? (i := 100) rfl), lw_t5 (List.mem_of_getElem? (i := 101) rfl)⟩
theorem lw_p43 : lw_okq (⟨"NettedPlansModel", "supplied", "(III)J"⟩, 27) := ⟨⟨by decide +kernel, by decide +kernel⟩, lw_t4 (List.mem_of_getElem? (i := 115) rfl), lw_t5 (List.mem_of_getElem? (i := 116) rfl), lw_t5 (List.mem_of_getElem? (i := 117) rfl)⟩
theorem lw_p44 : lw_okq (⟨"NettedPlansModel", "isTrue", "(III)Z"⟩, 27) := ⟨⟨by decide +kernel, by decide +kernel⟩, lw_t4 (List.mem_of_getElem? (i := 115) rfl), lw_t5 (List.mem_of_getElem? (i := 124) rfl), lw_t5 (List.mem_of_getElem? (i := 125) rfl)⟩
theorem lw_p45 : lw_okq (⟨"NettedPlansModel", "shortItems", "()I"⟩, 27) := ⟨⟨by decide +kernel, by decide +kernel⟩, lw_t4 (List.mem_of_getElem? (i := 115) rfl), lw_t5 (List.mem_of_getElem? (i := 144) rfl), lw_t5 (List.mem_of_getElem? (i := 145) rfl)⟩
def lw_privs_3 : List (MethodName × Nat) := [(⟨"NettedPlansModel", "sumOf", "(III)J"⟩, 27), (⟨"NettedPlansModel", "asks", "(II)J"⟩, 27), (⟨"NettedPlansModel", "plan", "(I)V"⟩, 27), (⟨"NettedPlansModel", "findNeeds", "(I)V"⟩, 27), (⟨"NettedPlansModel", "bare", "(II)J"⟩, 27), (⟨"NettedPlansModel", "findBest", "(I)V"⟩, 27), (⟨"NettedPlansModel", "lastOf", "(II)I"⟩, 27), (⟨"NettedPlansModel", "cost", "(III)J"⟩, 27), (⟨"NettedPlansModel", "needOf", "(I)J"⟩, 27), (⟨"NettedPlansModel", "lot", "(IIJ)J"⟩, 27), (⟨"NettedPlansModel", "isWrong", "(II)Z"⟩, 27), (⟨"NettedPlansModel", "supplied", "(III)J"⟩, 27), (⟨"NettedPlansModel", "isTrue", "(III)Z"⟩, 27), (⟨"NettedPlansModel", "shortItems", "()I"⟩, 27)]
theorem lw_r3 : ∀ q ∈ lw_privs_3, lw_okq q := List.forall_mem_cons.mpr ⟨lw_p32, List.forall_mem_cons.mpr ⟨lw_p33, List.forall_mem_cons.mpr ⟨lw_p34, List.forall_mem_cons.mpr ⟨lw_p35, List.forall_mem_cons.mpr ⟨lw_p36, List.forall_mem_cons.mpr ⟨lw_p37, List.forall_mem_cons.mpr ⟨lw_p38, List.forall_mem_cons.mpr ⟨lw_p39, List.forall_mem_cons.mpr ⟨lw_p40, List.forall_mem_cons.mpr ⟨lw_p41, List.forall_mem_cons.mpr ⟨lw_p42, List.forall_mem_cons.mpr ⟨lw_p43, List.forall_mem_cons.mpr ⟨lw_p44, List.forall_mem_cons.mpr ⟨lw_p45, fun _ h => absurd h List.not_mem_nil⟩⟩⟩⟩⟩⟩⟩⟩⟩⟩⟩⟩⟩⟩
def lw_privs : List (MethodName × Nat) := lw_privs_1 ++ (lw_privs_2 ++ (lw_privs_3))
def lw_tbl : List Cond := k2_sels lw_privs ++ tables_1
theorem lw_privs_ok : ∀ q ∈ lw_privs, lw_okq q := by
  show ∀ q ∈ lw_privs_1 ++ (lw_privs_2 ++ (lw_privs_3)), lw_okq q
  exact List.forall_mem_append.mpr ⟨lw_r1, List.forall_mem_append.mpr ⟨lw_r2, lw_r3⟩⟩
-- ===== ONE list of words for every method: the tables' words that hold all through a run =====
def lw_all : List Cond := lw_tbl.filter goodWord
/-- a word of the tables by its place: claim/WORDS.tsv -/
theorem lw_w {w : Cond} (i : Nat) (h : lw_tbl[i]? = some w) (g : goodWord w = true) : w ∈ lw_all := List.mem_filter.mpr ⟨List.mem_of_getElem? h, g⟩
theorem lw_all_tbl {w : Cond} (h : w ∈ lw_all) : w ∈ lw_tbl := (List.mem_filter.mp h).1
theorem lw_self : GoodIn lw_all lw_all := fun w h => ⟨h, good_of_word (List.mem_filter.mp h).2⟩
/-- a class's field words, by their places -/
theorem lw_in (ws : List Cond) (ps : List Nat) (hp : ws = ps.filterMap (fun i => lw_tbl[i]?)) (hg : ws.all goodWord = true) : ∀ w ∈ ws, w ∈ lw_all := by
  intro w h
  have h1 := List.all_eq_true.mp hg w h
  rw [hp] at h
  obtain ⟨i, -, hi⟩ := List.mem_filterMap.mp h
  exact lw_w i hi h1
/-- the words of a contract for the method y with code b, L locals, answer r -/
abbrev ws_ (y : MethodName) (b : ByteArray) (L : Nat) (r : Option FieldType) : List Cond := Cond.code y b L r :: lw_all
theorem lw_meth {y : MethodName} {b : ByteArray} {L : Nat} {r : Option FieldType} (h : Cond.code y b L r ∈ lw_all) : GoodIn lw_all (ws_ y b L r) := by
  intro w hw
  rcases List.mem_cons.mp hw with e | e
  · rw [e]
    exact lw_self _ h
  · exact lw_self _ e
theorem lw_app {a c : List Cond} (ha : ∀ w ∈ a, w ∈ lw_all) (hc : GoodIn lw_all c) : GoodIn lw_all (a ++ c) := by
  intro w hw
  rcases List.mem_append.mp hw with e | e
  · exact lw_self w (ha w e)
  · exact hc w e
/-- what a call through an object asks: cwV n hts (lw_V ..) -/
theorem lw_V {own : String} {idx : Nat} {C : String} {y : MethodName} {b : ByteArray} {L : Nat} {r : Option FieldType} (h1 : Cond.methodLink own idx y ∈ lw_all) (h2 : Cond.instanceMethod y ∈ lw_all) (h3 : Cond.selects C y y ∈ lw_all) (h4 : Cond.initialized C ∈ lw_all) (h5 : Cond.code y b L r ∈ lw_all) : GoodIn lw_all (wsV own idx C y (ws_ y b L r)) := by
  refine lw_app ?_ (lw_meth h5)
  intro w hw
  simp only [List.mem_cons, List.not_mem_nil, or_false] at hw
  rcases hw with e | e | e | e
  · rw [e]; exact h1
  · rw [e]; exact h2
  · rw [e]; exact h3
  · rw [e]; exact h4
/-- what a static call asks: va_cwS n hts (lw_S ..) -/
theorem lw_S {own : String} {idx : Nat} {y : MethodName} {b : ByteArray} {L : Nat} {r : Option FieldType} (h1 : Cond.methodLink own idx y ∈ lw_all) (h2 : Cond.static y ∈ lw_all) (h3 : Cond.initialized y.cls ∈ lw_all) (h4 : Cond.code y b L r ∈ lw_all) : GoodIn lw_all (va_wsS own idx y (ws_ y b L r)) := by
  refine lw_app ?_ (lw_meth h4)
  intro w hw
  simp only [List.mem_cons, List.not_mem_nil, or_false] at hw
  rcases hw with e | e | e
  · rw [e]; exact h1
  · rw [e]; exact h2
  · rw [e]; exact h3
/-- the words of a contract for a method WITH HANDLERS (hh: its table) -/
abbrev wsW_ (y : MethodName) (b : ByteArray) (L : Nat) (r : Option FieldType) (hh : List (Nat × Nat × Nat × Nat)) : List Cond := Cond.codeWith y b L r hh :: lw_all
theorem lw_methW {y : MethodName} {b : ByteArray} {L : Nat} {r : Option FieldType} {hh : List (Nat × Nat × Nat × Nat)} (h : Cond.codeWith y b L r hh ∈ lw_all) : GoodIn lw_all (wsW_ y b L r hh) := by
  intro w hw
  rcases List.mem_cons.mp hw with e | e
  · rw [e]
    exact lw_self _ h
  · exact lw_self _ e
/-- any list of words by their places (lw_in), good -/
theorem lw_good {ws : List Cond} (h : ∀ w ∈ ws, w ∈ lw_all) : GoodIn lw_all ws := fun w hw => lw_self w (h w hw)
/-- what a call of a method with handlers asks: vx_cwVW n hts (lw_VW ..), vx_cwSW n hts (lw_SW ..) -/
theorem lw_VW {own : String} {idx : Nat} {C : String} {y : MethodName} {b : ByteArray} {L : Nat} {r : Option FieldType} {hh : List (Nat × Nat × Nat × Nat)} (h1 : Cond.methodLink own idx y ∈ lw_all) (h2 : Cond.instanceMethod y ∈ lw_all) (h3 : Cond.selects C y y ∈ lw_all) (h4 : Cond.initialized C ∈ lw_all) (h5 : Cond.codeWith y b L r hh ∈ lw_all) : GoodIn lw_all (wsV own idx C y (wsW_ y b L r hh)) := by
  refine lw_app ?_ (lw_methW h5)
  intro w hw
  simp only [List.mem_cons, List.not_mem_nil, or_false] at hw
  rcases hw with e | e | e | e
  · rw [e]; exact h1
  · rw [e]; exact h2
  · rw [e]; exact h3
  · rw [e]; exact h4
theorem lw_SW {own : String} {idx : Nat} {y : MethodName} {b : ByteArray} {L : Nat} {r : Option FieldType} {hh : List (Nat × Nat × Nat × Nat)} (h1 : Cond.methodLink own idx y ∈ lw_all) (h2 : Cond.static y ∈ lw_all) (h3 : Cond.initialized y.cls ∈ lw_all) (h4 : Cond.codeWith y b L r hh ∈ lw_all) : GoodIn lw_all (va_wsS own idx y (wsW_ y b L r hh)) := by
  refine lw_app ?_ (lw_methW h4)
  intro w hw
  simp only [List.mem_cons, List.not_mem_nil, or_false] at hw
  rcases hw with e | e | e
  · rw [e]; exact h1
  · rw [e]; exact h2
  · rw [e]; exact h3
/-- a word by its place in its run of the tables -/
theorem lw_at {r : List Cond} (hr : ∀ w ∈ r, w ∈ lw_tbl) {w : Cond} (i : Nat) (h : r[i]? = some w) : w ∈ lw_tbl := hr w (List.mem_of_getElem? h)
theorem lw_g {w : Cond} (h : w ∈ lw_tbl) (g : goodWord w = true) : w ∈ lw_all := List.mem_filter.mpr ⟨h, g⟩
theorem lw_ms : ∀ w ∈ k2_sels lw_privs, w ∈ lw_tbl := fun w h => show w ∈ k2_sels lw_privs ++ tables_1 from List.mem_append_left _ h
theorem lw_m1 : ∀ w ∈ tables_1_1, w ∈ lw_tbl := fun w h => show w ∈ k2_sels lw_privs ++ tables_1 from List.mem_append_right (k2_sels lw_privs) (show w ∈ tables_1 from List.mem_append_left _ h)
theorem lw_m2 : ∀ w ∈ tables_1_2, w ∈ lw_tbl := fun w h => show w ∈ k2_sels lw_privs ++ tables_1 from List.mem_append_right (k2_sels lw_privs) (show w ∈ tables_1 from List.mem_append_right _ (List.mem_append_left _ h))
theorem lw_m3 : ∀ w ∈ tables_1_3, w ∈ lw_tbl := fun w h => show w ∈ k2_sels lw_privs ++ tables_1 from List.mem_append_right (k2_sels lw_privs) (show w ∈ tables_1 from List.mem_append_right _ (List.mem_append_right _ (List.mem_append_left _ h)))
theorem lw_m4 : ∀ w ∈ tables_1_4, w ∈ lw_tbl := fun w h => show w ∈ k2_sels lw_privs ++ tables_1 from List.mem_append_right (k2_sels lw_privs) (show w ∈ tables_1 from List.mem_append_right _ (List.mem_append_right _ (List.mem_append_right _ (List.mem_append_left _ h))))
theorem lw_m5 : ∀ w ∈ tables_1_5, w ∈ lw_tbl := fun w h => show w ∈ k2_sels lw_privs ++ tables_1 from List.mem_append_right (k2_sels lw_privs) (show w ∈ tables_1 from List.mem_append_right _ (List.mem_append_right _ (List.mem_append_right _ (List.mem_append_right _ h))))
theorem qs0 : (Cond.selects "NettedPlans" ⟨"NettedPlans", "await", "(LNettedPlans$Item;)V"⟩ ⟨"NettedPlans", "await", "(LNettedPlans$Item;)V"⟩) ∈ lw_all := lw_g (lw_at lw_ms 0 rfl) rfl
theorem qs1 : (Cond.selects "java/util/ArrayList" ⟨"java/util/ArrayList", "add", "(Ljava/lang/Object;[Ljava/lang/Object;I)V"⟩ ⟨"java/util/ArrayList", "add", "(Ljava/lang/Object;[Ljava/lang/Object;I)V"⟩) ∈ lw_all := lw_g (lw_at lw_ms 1 rfl) rfl
theorem qs2 : (Cond.selects "java/util/ArrayList" ⟨"java/util/ArrayList", "grow", "()[Ljava/lang/Object;"⟩ ⟨"java/util/ArrayList", "grow", "()[Ljava/lang/Object;"⟩) ∈ lw_all := lw_g (lw_at lw_ms 2 rfl) rfl
theorem qs3 : (Cond.selects "java/util/ArrayList" ⟨"java/util/ArrayList", "grow", "(I)[Ljava/lang/Object;"⟩ ⟨"java/util/ArrayList", "grow", "(I)[Ljava/lang/Object;"⟩) ∈ lw_all := lw_g (lw_at lw_ms 3 rfl) rfl
theorem qs4 : (Cond.selects "NettedPlans$Waits" ⟨"NettedPlans$Waits", "swap", "(II)V"⟩ ⟨"NettedPlans$Waits", "swap", "(II)V"⟩) ∈ lw_all := lw_g (lw_at lw_ms 4 rfl) rfl
theorem qs5 : (Cond.selects "java/util/ArrayList" ⟨"java/util/ArrayList", "fastRemove", "([Ljava/lang/Object;I)V"⟩ ⟨"java/util/ArrayList", "fastRemove", "([Ljava/lang/Object;I)V"⟩) ∈ lw_all := lw_g (lw_at lw_ms 5 rfl) rfl
theorem qs6 : (Cond.selects "NettedPlans$Waits" ⟨"NettedPlans$Waits", "least", "(I)I"⟩ ⟨"NettedPlans$Waits", "least", "(I)I"⟩) ∈ lw_all := lw_g (lw_at lw_ms 6 rfl) rfl
theorem qs7 : (Cond.selects "NettedPlans" ⟨"NettedPlans", "grows", "(LNettedPlans$Item;)Z"⟩ ⟨"NettedPlans", "grows", "(LNettedPlans$Item;)Z"⟩) ∈ lw_all := lw_g (lw_at lw_ms 7 rfl) rfl
theorem qs8 : (Cond.selects "NettedPlans" ⟨"NettedPlans", "asks", "(LNettedPlans$Item;I)J"⟩ ⟨"NettedPlans", "asks", "(LNettedPlans$Item;I)J"⟩) ∈ lw_all := lw_g (lw_at lw_ms 8 rfl) rfl
theorem qs9 : (Cond.selects "NettedPlans" ⟨"NettedPlans", "net", "(LNettedPlans$Item;)V"⟩ ⟨"NettedPlans", "net", "(LNettedPlans$Item;)V"⟩) ∈ lw_all := lw_g (lw_at lw_ms 9 rfl) rfl
theorem qs10 : (Cond.selects "NettedPlans$LeastCost" ⟨"NettedPlans$LeastCost", "look", "(LNettedPlans$Item;I)V"⟩ ⟨"NettedPlans$LeastCost", "look", "(LNettedPlans$Item;I)V"⟩) ∈ lw_all := lw_g (lw_at lw_ms 10 rfl) rfl
theorem qs11 : (Cond.selects "NettedPlans" ⟨"NettedPlans", "of", "(I)LNettedPlans$Item;"⟩ ⟨"NettedPlans", "of", "(I)LNettedPlans$Item;"⟩) ∈ lw_all := lw_g (lw_at lw_ms 11 rfl) rfl
theorem qs12 : (Cond.selects "java/lang/Throwable" ⟨"java/lang/Throwable", "fillInStackTrace", "(I)Ljava/lang/Throwable;"⟩ ⟨"java/lang/Throwable", "fillInStackTrace", "(I)Ljava/lang/Throwable;"⟩) ∈ lw_all := lw_g (lw_at lw_ms 12 rfl) rfl
theorem qs13 : (Cond.selects "NettedPlans" ⟨"NettedPlans", "tell", "(LNettedPlans$Item;)V"⟩ ⟨"NettedPlans", "tell", "(LNettedPlans$Item;)V"⟩) ∈ lw_all := lw_g (lw_at lw_ms 13 rfl) rfl
theorem qs14 : (Cond.selects "NettedPlans" ⟨"NettedPlans", "find", "(LNettedPlans$Item;LNettedPlans$Item;)I"⟩ ⟨"NettedPlans", "find", "(LNettedPlans$Item;LNettedPlans$Item;)I"⟩) ∈ lw_all := lw_g (lw_at lw_ms 14 rfl) rfl
theorem qs15 : (Cond.selects "NettedPlans" ⟨"NettedPlans", "levelled", "(LNettedPlans$Item;LNettedPlans$Item;)Z"⟩ ⟨"NettedPlans", "levelled", "(LNettedPlans$Item;LNettedPlans$Item;)Z"⟩) ∈ lw_all := lw_g (lw_at lw_ms 15 rfl) rfl
theorem qs16 : (Cond.selects "NettedPlans" ⟨"NettedPlans", "raise", "(LNettedPlans$Item;LNettedPlans$Item;)Z"⟩ ⟨"NettedPlans", "raise", "(LNettedPlans$Item;LNettedPlans$Item;)Z"⟩) ∈ lw_all := lw_g (lw_at lw_ms 16 rfl) rfl
theorem qs17 : (Cond.selects "NettedPlans" ⟨"NettedPlans", "keepLevels", "()V"⟩ ⟨"NettedPlans", "keepLevels", "()V"⟩) ∈ lw_all := lw_g (lw_at lw_ms 17 rfl) rfl
theorem qs18 : (Cond.selects "NettedPlans" ⟨"NettedPlans", "enter", "(LNettedPlans$Book;III)I"⟩ ⟨"NettedPlans", "enter", "(LNettedPlans$Book;III)I"⟩) ∈ lw_all := lw_g (lw_at lw_ms 18 rfl) rfl
theorem qs19 : (Cond.selects "NettedPlans" ⟨"NettedPlans", "current", "(I)LNettedPlans$Item;"⟩ ⟨"NettedPlans", "current", "(I)LNettedPlans$Item;"⟩) ∈ lw_all := lw_g (lw_at lw_ms 19 rfl) rfl
theorem qs20 : (Cond.selects "NettedPlans" ⟨"NettedPlans", "claimedBefore", "(LNettedPlans$Item;I)J"⟩ ⟨"NettedPlans", "claimedBefore", "(LNettedPlans$Item;I)J"⟩) ∈ lw_all := lw_g (lw_at lw_ms 20 rfl) rfl
theorem qs21 : (Cond.selects "NettedPlans" ⟨"NettedPlans", "suppliedBefore", "(LNettedPlans$Item;I)J"⟩ ⟨"NettedPlans", "suppliedBefore", "(LNettedPlans$Item;I)J"⟩) ∈ lw_all := lw_g (lw_at lw_ms 21 rfl) rfl
theorem qs22 : (Cond.selects "NettedPlans" ⟨"NettedPlans", "isTrue", "(LNettedPlans$Item;II)Z"⟩ ⟨"NettedPlans", "isTrue", "(LNettedPlans$Item;II)Z"⟩) ∈ lw_all := lw_g (lw_at lw_ms 22 rfl) rfl
theorem qs23 : (Cond.selects "NettedPlansModel" ⟨"NettedPlansModel", "refused", "(I)Z"⟩ ⟨"NettedPlansModel", "refused", "(I)Z"⟩) ∈ lw_all := lw_g (lw_at lw_ms 23 rfl) rfl
theorem qs24 : (Cond.selects "NettedPlansModel" ⟨"NettedPlansModel", "tell", "(I)V"⟩ ⟨"NettedPlansModel", "tell", "(I)V"⟩) ∈ lw_all := lw_g (lw_at lw_ms 24 rfl) rfl
theorem qs25 : (Cond.selects "NettedPlansModel" ⟨"NettedPlansModel", "setLine", "(IIII)V"⟩ ⟨"NettedPlansModel", "setLine", "(IIII)V"⟩) ∈ lw_all := lw_g (lw_at lw_ms 25 rfl) rfl
theorem qs26 : (Cond.selects "NettedPlansModel" ⟨"NettedPlansModel", "isSound", "()Z"⟩ ⟨"NettedPlansModel", "isSound", "()Z"⟩) ∈ lw_all := lw_g (lw_at lw_ms 26 rfl) rfl
theorem qs27 : (Cond.selects "NettedPlansModel" ⟨"NettedPlansModel", "levelOf", "(I)I"⟩ ⟨"NettedPlansModel", "levelOf", "(I)I"⟩) ∈ lw_all := lw_g (lw_at lw_ms 27 rfl) rfl
theorem qs28 : (Cond.selects "NettedPlansModel" ⟨"NettedPlansModel", "addTold", "(IIII)I"⟩ ⟨"NettedPlansModel", "addTold", "(IIII)I"⟩) ∈ lw_all := lw_g (lw_at lw_ms 28 rfl) rfl
theorem qs29 : (Cond.selects "NettedPlansModel" ⟨"NettedPlansModel", "add", "(IIII)I"⟩ ⟨"NettedPlansModel", "add", "(IIII)I"⟩) ∈ lw_all := lw_g (lw_at lw_ms 29 rfl) rfl
theorem qs30 : (Cond.selects "NettedPlansModel" ⟨"NettedPlansModel", "net", "(I)Z"⟩ ⟨"NettedPlansModel", "net", "(I)Z"⟩) ∈ lw_all := lw_g (lw_at lw_ms 30 rfl) rfl
theorem qs31 : (Cond.selects "NettedPlansModel" ⟨"NettedPlansModel", "grossOf", "(II)J"⟩ ⟨"NettedPlansModel", "grossOf", "(II)J"⟩) ∈ lw_all := lw_g (lw_at lw_ms 31 rfl) rfl
theorem qs32 : (Cond.selects "NettedPlansModel" ⟨"NettedPlansModel", "sumOf", "(III)J"⟩ ⟨"NettedPlansModel", "sumOf", "(III)J"⟩) ∈ lw_all := lw_g (lw_at lw_ms 32 rfl) rfl
theorem qs33 : (Cond.selects "NettedPlansModel" ⟨"NettedPlansModel", "asks", "(II)J"⟩ ⟨"NettedPlansModel", "asks", "(II)J"⟩) ∈ lw_all := lw_g (lw_at lw_ms 33 rfl) rfl
theorem qs34 : (Cond.selects "NettedPlansModel" ⟨"NettedPlansModel", "plan", "(I)V"⟩ ⟨"NettedPlansModel", "plan", "(I)V"⟩) ∈ lw_all := lw_g (lw_at lw_ms 34 rfl) rfl
theorem qs35 : (Cond.selects "NettedPlansModel" ⟨"NettedPlansModel", "findNeeds", "(I)V"⟩ ⟨"NettedPlansModel", "findNeeds", "(I)V"⟩) ∈ lw_all := lw_g (lw_at lw_ms 35 rfl) rfl
theorem qs36 : (Cond.selects "NettedPlansModel" ⟨"NettedPlansModel", "bare", "(II)J"⟩ ⟨"NettedPlansModel", "bare", "(II)J"⟩) ∈ lw_all := lw_g (lw_at lw_ms 36 rfl) rfl
theorem qs37 : (Cond.selects "NettedPlansModel" ⟨"NettedPlansModel", "findBest", "(I)V"⟩ ⟨"NettedPlansModel", "findBest", "(I)V"⟩) ∈ lw_all := lw_g (lw_at lw_ms 37 rfl) rfl
theorem qs38 : (Cond.selects "NettedPlansModel" ⟨"NettedPlansModel", "lastOf", "(II)I"⟩ ⟨"NettedPlansModel", "lastOf", "(II)I"⟩) ∈ lw_all := lw_g (lw_at lw_ms 38 rfl) rfl
theorem qs39 : (Cond.selects "NettedPlansModel" ⟨"NettedPlansModel", "cost", "(III)J"⟩ ⟨"NettedPlansModel", "cost", "(III)J"⟩) ∈ lw_all := lw_g (lw_at lw_ms 39 rfl) rfl
theorem qs40 : (Cond.selects "NettedPlansModel" ⟨"NettedPlansModel", "needOf", "(I)J"⟩ ⟨"NettedPlansModel", "needOf", "(I)J"⟩) ∈ lw_all := lw_g (lw_at lw_ms 40 rfl) rfl
theorem qs41 : (Cond.selects "NettedPlansModel" ⟨"NettedPlansModel", "lot", "(IIJ)J"⟩ ⟨"NettedPlansModel", "lot", "(IIJ)J"⟩) ∈ lw_all := lw_g (lw_at lw_ms 41 rfl) rfl
theorem qs42 : (Cond.selects "NettedPlansModel" ⟨"NettedPlansModel", "isWrong", "(II)Z"⟩ ⟨"NettedPlansModel", "isWrong", "(II)Z"⟩) ∈ lw_all := lw_g (lw_at lw_ms 42 rfl) rfl
theorem qs43 : (Cond.selects "NettedPlansModel" ⟨"NettedPlansModel", "supplied", "(III)J"⟩ ⟨"NettedPlansModel", "supplied", "(III)J"⟩) ∈ lw_all := lw_g (lw_at lw_ms 43 rfl) rfl
theorem qs44 : (Cond.selects "NettedPlansModel" ⟨"NettedPlansModel", "isTrue", "(III)Z"⟩ ⟨"NettedPlansModel", "isTrue", "(III)Z"⟩) ∈ lw_all := lw_g (lw_at lw_ms 44 rfl) rfl
theorem qs45 : (Cond.selects "NettedPlansModel" ⟨"NettedPlansModel", "shortItems", "()I"⟩ ⟨"NettedPlansModel", "shortItems", "()I"⟩) ∈ lw_all := lw_g (lw_at lw_ms 45 rfl) rfl
