-- ===== PART A: goes FIRST, ahead of the names: the tables' words, and 'selects' of the private methods out of them =====
/-- a private method of a class that the tables say can be made, by its rows of tables_1 -/
def lw_okq (q : MethodName × Nat) : Prop := (q.1.cls ≠ "java/lang/invoke/MethodHandle" ∧ q.1.cls ≠ "java/lang/invoke/VarHandle") ∧ Cond.instantiable q.1.cls q.2 ∈ tables_1 ∧ Cond.privateMethod q.1 ∈ tables_1 ∧ Cond.instanceMethod q.1 ∈ tables_1
set_option maxRecDepth 100000
theorem lw_t1 {w : Cond} (h : w ∈ tables_1_1) : w ∈ tables_1 := List.mem_append_left _ h
theorem lw_t2 {w : Cond} (h : w ∈ tables_1_2) : w ∈ tables_1 := List.mem_append_right _ (List.mem_append_left _ h)
theorem lw_t3 {w : Cond} (h : w ∈ tables_1_3) : w ∈ tables_1 := List.mem_append_right _ (List.mem_append_right _ (List.mem_append_left _ h))
theorem lw_t4 {w : Cond} (h : w ∈ tables_1_4) : w ∈ tables_1 := List.mem_append_right _ (List.mem_append_right _ (List.mem_append_right _ (List.mem_append_left _ h)))
theorem lw_t5 {w : Cond} (h : w ∈ tables_1_5) : w ∈ tables_1 := List.mem_append_right _ (List.mem_append_right _ (List.mem_append_right _ (List.mem_append_right _ (List.mem_append_left _ h))))
theorem lw_t6 {w : Cond} (h : w ∈ tables_1_6) : w ∈ tables_1 := List.mem_append_right _ (List.mem_append_right _ (List.mem_append_right _ (List.mem_append_right _ (List.mem_append_right _ (List.mem_append_left _ h)))))
theorem lw_t7 {w : Cond} (h : w ∈ tables_1_7) : w ∈ tables_1 := List.mem_append_right _ (List.mem_append_right _ (List.mem_append_right _ (List.mem_append_right _ (List.mem_append_right _ (List.mem_append_right _ h)))))
theorem lw_p0 : lw_okq (⟨"InterestTaken", "text", "(I)LInterestTaken$Text;"⟩, 25) := ⟨⟨by decide +kernel, by decide +kernel⟩, lw_t1 (List.mem_of_getElem? (i := 31) rfl), lw_t1 (List.mem_of_getElem? (i := 235) rfl), lw_t1 (List.mem_of_getElem? (i := 236) rfl)⟩
theorem lw_p1 : lw_okq (⟨"java/lang/Throwable", "fillInStackTrace", "(I)Ljava/lang/Throwable;"⟩, 6) := ⟨⟨by decide +kernel, by decide +kernel⟩, lw_t2 (List.mem_of_getElem? (i := 88) rfl), lw_t2 (List.mem_of_getElem? (i := 86) rfl), lw_t2 (List.mem_of_getElem? (i := 87) rfl)⟩
theorem lw_p2 : lw_okq (⟨"java/util/ArrayList", "add", "(Ljava/lang/Object;[Ljava/lang/Object;I)V"⟩, 3) := ⟨⟨by decide +kernel, by decide +kernel⟩, lw_t1 (List.mem_of_getElem? (i := 48) rfl), lw_t3 (List.mem_of_getElem? (i := 38) rfl), lw_t3 (List.mem_of_getElem? (i := 39) rfl)⟩
theorem lw_p3 : lw_okq (⟨"java/util/ArrayList", "grow", "()[Ljava/lang/Object;"⟩, 3) := ⟨⟨by decide +kernel, by decide +kernel⟩, lw_t1 (List.mem_of_getElem? (i := 48) rfl), lw_t3 (List.mem_of_getElem? (i := 42) rfl), lw_t3 (List.mem_of_getElem? (i := 43) rfl)⟩
theorem lw_p4 : lw_okq (⟨"java/util/ArrayList", "grow", "(I)[Ljava/lang/Object;"⟩, 3) := ⟨⟨by decide +kernel, by decide +kernel⟩, lw_t1 (List.mem_of_getElem? (i := 48) rfl), lw_t3 (List.mem_of_getElem? (i := 46) rfl), lw_t3 (List.mem_of_getElem? (i := 47) rfl)⟩
theorem lw_p5 : lw_okq (⟨"InterestTaken", "isSaver", "(I)Z"⟩, 25) := ⟨⟨by decide +kernel, by decide +kernel⟩, lw_t1 (List.mem_of_getElem? (i := 31) rfl), lw_t3 (List.mem_of_getElem? (i := 98) rfl), lw_t3 (List.mem_of_getElem? (i := 99) rfl)⟩
theorem lw_p6 : lw_okq (⟨"InterestTaken", "isPartner", "(I)Z"⟩, 25) := ⟨⟨by decide +kernel, by decide +kernel⟩, lw_t1 (List.mem_of_getElem? (i := 31) rfl), lw_t3 (List.mem_of_getElem? (i := 143) rfl), lw_t3 (List.mem_of_getElem? (i := 144) rfl)⟩
theorem lw_p7 : lw_okq (⟨"java/util/ArrayList", "fastRemove", "([Ljava/lang/Object;I)V"⟩, 3) := ⟨⟨by decide +kernel, by decide +kernel⟩, lw_t1 (List.mem_of_getElem? (i := 48) rfl), lw_t3 (List.mem_of_getElem? (i := 187) rfl), lw_t3 (List.mem_of_getElem? (i := 188) rfl)⟩
theorem lw_p8 : lw_okq (⟨"InterestTaken", "met", "(I)I"⟩, 25) := ⟨⟨by decide +kernel, by decide +kernel⟩, lw_t1 (List.mem_of_getElem? (i := 31) rfl), lw_t3 (List.mem_of_getElem? (i := 200) rfl), lw_t3 (List.mem_of_getElem? (i := 201) rfl)⟩
theorem lw_p9 : lw_okq (⟨"InterestTaken", "find", "()V"⟩, 25) := ⟨⟨by decide +kernel, by decide +kernel⟩, lw_t1 (List.mem_of_getElem? (i := 31) rfl), lw_t3 (List.mem_of_getElem? (i := 225) rfl), lw_t3 (List.mem_of_getElem? (i := 226) rfl)⟩
theorem lw_p10 : lw_okq (⟨"InterestTaken", "isWar", "(I)Z"⟩, 25) := ⟨⟨by decide +kernel, by decide +kernel⟩, lw_t1 (List.mem_of_getElem? (i := 31) rfl), lw_t3 (List.mem_of_getElem? (i := 229) rfl), lw_t3 (List.mem_of_getElem? (i := 230) rfl)⟩
theorem lw_p11 : lw_okq (⟨"InterestTaken", "mounts", "(II)V"⟩, 25) := ⟨⟨by decide +kernel, by decide +kernel⟩, lw_t1 (List.mem_of_getElem? (i := 31) rfl), lw_t3 (List.mem_of_getElem? (i := 237) rfl), lw_t3 (List.mem_of_getElem? (i := 238) rfl)⟩
theorem lw_p12 : lw_okq (⟨"InterestTaken", "isCalled", "(II)Z"⟩, 25) := ⟨⟨by decide +kernel, by decide +kernel⟩, lw_t1 (List.mem_of_getElem? (i := 31) rfl), lw_t4 (List.mem_of_getElem? (i := 10) rfl), lw_t4 (List.mem_of_getElem? (i := 11) rfl)⟩
theorem lw_p13 : lw_okq (⟨"InterestTaken", "hearsAll", "(II)V"⟩, 25) := ⟨⟨by decide +kernel, by decide +kernel⟩, lw_t1 (List.mem_of_getElem? (i := 31) rfl), lw_t4 (List.mem_of_getElem? (i := 22) rfl), lw_t4 (List.mem_of_getElem? (i := 23) rfl)⟩
theorem lw_p14 : lw_okq (⟨"InterestTaken", "hears", "(IIILInterestTaken$Ear;)I"⟩, 25) := ⟨⟨by decide +kernel, by decide +kernel⟩, lw_t1 (List.mem_of_getElem? (i := 31) rfl), lw_t4 (List.mem_of_getElem? (i := 28) rfl), lw_t4 (List.mem_of_getElem? (i := 29) rfl)⟩
theorem lw_p15 : lw_okq (⟨"InterestTaken", "allOwed", "(I)I"⟩, 25) := ⟨⟨by decide +kernel, by decide +kernel⟩, lw_t1 (List.mem_of_getElem? (i := 31) rfl), lw_t4 (List.mem_of_getElem? (i := 54) rfl), lw_t4 (List.mem_of_getElem? (i := 55) rfl)⟩
def lw_privs_1 : List (MethodName × Nat) := [(⟨"InterestTaken", "text", "(I)LInterestTaken$Text;"⟩, 25), (⟨"java/lang/Throwable", "fillInStackTrace", "(I)Ljava/lang/Throwable;"⟩, 6), (⟨"java/util/ArrayList", "add", "(Ljava/lang/Object;[Ljava/lang/Object;I)V"⟩, 3), (⟨"java/util/ArrayList", "grow", "()[Ljava/lang/Object;"⟩, 3), (⟨"java/util/ArrayList", "grow", "(I)[Ljava/lang/Object;"⟩, 3), (⟨"InterestTaken", "isSaver", "(I)Z"⟩, 25), (⟨"InterestTaken", "isPartner", "(I)Z"⟩, 25), (⟨"java/util/ArrayList", "fastRemove", "([Ljava/lang/Object;I)V"⟩, 3), (⟨"InterestTaken", "met", "(I)I"⟩, 25), (⟨"InterestTaken", "find", "()V"⟩, 25), (⟨"InterestTaken", "isWar", "(I)Z"⟩, 25), (⟨"InterestTaken", "mounts", "(II)V"⟩, 25), (⟨"InterestTaken", "isCalled", "(II)Z"⟩, 25), (⟨"InterestTaken", "hearsAll", "(II)V"⟩, 25), (⟨"InterestTaken", "hears", "(IIILInterestTaken$Ear;)I"⟩, 25), (⟨"InterestTaken", "allOwed", "(I)I"⟩, 25)]
theorem lw_r1 : ∀ q ∈ lw_privs_1, lw_okq q := List.forall_mem_cons.mpr ⟨lw_p0, List.forall_mem_cons.mpr ⟨lw_p1, List.forall_mem_cons.mpr ⟨lw_p2, List.forall_mem_cons.mpr ⟨lw_p3, List.forall_mem_cons.mpr ⟨lw_p4, List.forall_mem_cons.mpr ⟨lw_p5, List.forall_mem_cons.mpr ⟨lw_p6, List.forall_mem_cons.mpr ⟨lw_p7, List.forall_mem_cons.mpr ⟨lw_p8, List.forall_mem_cons.mpr ⟨lw_p9, List.forall_mem_cons.mpr ⟨lw_p10, List.forall_mem_cons.mpr ⟨lw_p11, List.forall_mem_cons.mpr ⟨lw_p12, List.forall_mem_cons.mpr ⟨lw_p13, List.forall_mem_cons.mpr ⟨lw_p14, List.forall_mem_cons.mpr ⟨lw_p15, fun _ h => absurd h List.not_mem_nil⟩⟩⟩⟩⟩⟩⟩⟩⟩⟩⟩⟩⟩⟩⟩⟩
theorem lw_p16 : lw_okq (⟨"InterestTaken", "heardBy", "(III)I"⟩, 25) := ⟨⟨by decide +kernel, by decide +kernel⟩, lw_t1 (List.mem_of_getElem? (i := 31) rfl), lw_t4 (List.mem_of_getElem? (i := 62) rfl), lw_t4 (List.mem_of_getElem? (i := 63) rfl)⟩
theorem lw_p17 : lw_okq (⟨"InterestTaken", "mostNow", "()I"⟩, 25) := ⟨⟨by decide +kernel, by decide +kernel⟩, lw_t1 (List.mem_of_getElem? (i := 31) rfl), lw_t4 (List.mem_of_getElem? (i := 82) rfl), lw_t4 (List.mem_of_getElem? (i := 83) rfl)⟩
theorem lw_p18 : lw_okq (⟨"InterestTaken", "heardInAll", "(I)I"⟩, 25) := ⟨⟨by decide +kernel, by decide +kernel⟩, lw_t1 (List.mem_of_getElem? (i := 31) rfl), lw_t4 (List.mem_of_getElem? (i := 86) rfl), lw_t4 (List.mem_of_getElem? (i := 87) rfl)⟩
theorem lw_p19 : lw_okq (⟨"InterestTaken", "holdNow", "()I"⟩, 25) := ⟨⟨by decide +kernel, by decide +kernel⟩, lw_t1 (List.mem_of_getElem? (i := 31) rfl), lw_t4 (List.mem_of_getElem? (i := 94) rfl), lw_t4 (List.mem_of_getElem? (i := 95) rfl)⟩
theorem lw_p20 : lw_okq (⟨"InterestTaken", "drawOf", "(II)I"⟩, 25) := ⟨⟨by decide +kernel, by decide +kernel⟩, lw_t1 (List.mem_of_getElem? (i := 31) rfl), lw_t4 (List.mem_of_getElem? (i := 102) rfl), lw_t4 (List.mem_of_getElem? (i := 103) rfl)⟩
theorem lw_p21 : lw_okq (⟨"InterestTaken", "hireBy", "(I)I"⟩, 25) := ⟨⟨by decide +kernel, by decide +kernel⟩, lw_t1 (List.mem_of_getElem? (i := 31) rfl), lw_t4 (List.mem_of_getElem? (i := 110) rfl), lw_t4 (List.mem_of_getElem? (i := 111) rfl)⟩
theorem lw_p22 : lw_okq (⟨"InterestTaken", "matchNow", "()I"⟩, 25) := ⟨⟨by decide +kernel, by decide +kernel⟩, lw_t1 (List.mem_of_getElem? (i := 31) rfl), lw_t4 (List.mem_of_getElem? (i := 118) rfl), lw_t4 (List.mem_of_getElem? (i := 119) rfl)⟩
theorem lw_p23 : lw_okq (⟨"InterestTaken", "finds", "(I[Z)Z"⟩, 25) := ⟨⟨by decide +kernel, by decide +kernel⟩, lw_t1 (List.mem_of_getElem? (i := 31) rfl), lw_t4 (List.mem_of_getElem? (i := 122) rfl), lw_t4 (List.mem_of_getElem? (i := 123) rfl)⟩
theorem lw_p24 : lw_okq (⟨"InterestTaken", "neverNow", "()I"⟩, 25) := ⟨⟨by decide +kernel, by decide +kernel⟩, lw_t1 (List.mem_of_getElem? (i := 31) rfl), lw_t4 (List.mem_of_getElem? (i := 139) rfl), lw_t4 (List.mem_of_getElem? (i := 140) rfl)⟩
theorem lw_p25 : lw_okq (⟨"InterestTaken", "isSeen", "()Z"⟩, 25) := ⟨⟨by decide +kernel, by decide +kernel⟩, lw_t1 (List.mem_of_getElem? (i := 31) rfl), lw_t4 (List.mem_of_getElem? (i := 143) rfl), lw_t4 (List.mem_of_getElem? (i := 144) rfl)⟩
theorem lw_p26 : lw_okq (⟨"InterestTaken", "sumsOf", "(I)I"⟩, 25) := ⟨⟨by decide +kernel, by decide +kernel⟩, lw_t1 (List.mem_of_getElem? (i := 31) rfl), lw_t4 (List.mem_of_getElem? (i := 151) rfl), lw_t4 (List.mem_of_getElem? (i := 152) rfl)⟩
theorem lw_p27 : lw_okq (⟨"InterestTaken", "ratesNow", "()I"⟩, 25) := ⟨⟨by decide +kernel, by decide +kernel⟩, lw_t1 (List.mem_of_getElem? (i := 31) rfl), lw_t4 (List.mem_of_getElem? (i := 159) rfl), lw_t4 (List.mem_of_getElem? (i := 160) rfl)⟩
theorem lw_p28 : lw_okq (⟨"InterestTaken", "askOf", "(I)I"⟩, 25) := ⟨⟨by decide +kernel, by decide +kernel⟩, lw_t1 (List.mem_of_getElem? (i := 31) rfl), lw_t4 (List.mem_of_getElem? (i := 167) rfl), lw_t4 (List.mem_of_getElem? (i := 168) rfl)⟩
theorem lw_p29 : lw_okq (⟨"InterestTaken", "alike", "(II)I"⟩, 25) := ⟨⟨by decide +kernel, by decide +kernel⟩, lw_t1 (List.mem_of_getElem? (i := 31) rfl), lw_t4 (List.mem_of_getElem? (i := 171) rfl), lw_t4 (List.mem_of_getElem? (i := 172) rfl)⟩
theorem lw_p30 : lw_okq (⟨"InterestTaken", "peaceOf", "(II)J"⟩, 25) := ⟨⟨by decide +kernel, by decide +kernel⟩, lw_t1 (List.mem_of_getElem? (i := 31) rfl), lw_t4 (List.mem_of_getElem? (i := 181) rfl), lw_t4 (List.mem_of_getElem? (i := 182) rfl)⟩
theorem lw_p31 : lw_okq (⟨"InterestTaken", "termOf", "(III)I"⟩, 25) := ⟨⟨by decide +kernel, by decide +kernel⟩, lw_t1 (List.mem_of_getElem? (i := 31) rfl), lw_t4 (List.mem_of_getElem? (i := 200) rfl), lw_t4 (List.mem_of_getElem? (i := 201) rfl)⟩
def lw_privs_2 : List (MethodName × Nat) := [(⟨"InterestTaken", "heardBy", "(III)I"⟩, 25), (⟨"InterestTaken", "mostNow", "()I"⟩, 25), (⟨"InterestTaken", "heardInAll", "(I)I"⟩, 25), (⟨"InterestTaken", "holdNow", "()I"⟩, 25), (⟨"InterestTaken", "drawOf", "(II)I"⟩, 25), (⟨"InterestTaken", "hireBy", "(I)I"⟩, 25), (⟨"InterestTaken", "matchNow", "()I"⟩, 25), (⟨"InterestTaken", "finds", "(I[Z)Z"⟩, 25), (⟨"InterestTaken", "neverNow", "()I"⟩, 25), (⟨"InterestTaken", "isSeen", "()Z"⟩, 25), (⟨"InterestTaken", "sumsOf", "(I)I"⟩, 25), (⟨"InterestTaken", "ratesNow", "()I"⟩, 25), (⟨"InterestTaken", "askOf", "(I)I"⟩, 25), (⟨"InterestTaken", "alike", "(II)I"⟩, 25), (⟨"InterestTaken", "peaceOf", "(II)J"⟩, 25), (⟨"InterestTaken", "termOf", "(III)I"⟩, 25)]
theorem lw_r2 : ∀ q ∈ lw_privs_2, lw_okq q := List.forall_mem_cons.mpr ⟨lw_p16, List.forall_mem_cons.mpr ⟨lw_p17, List.forall_mem_cons.mpr ⟨lw_p18, List.forall_mem_cons.mpr ⟨lw_p19, List.forall_mem_cons.mpr ⟨lw_p20, List.forall_mem_cons.mpr ⟨lw_p21, List.forall_mem_cons.mpr ⟨lw_p22, List.forall_mem_cons.mpr ⟨lw_p23, List.forall_mem_cons.mpr ⟨lw_p24, List.forall_mem_cons.mpr ⟨lw_p25, List.forall_mem_cons.mpr ⟨lw_p26, List.forall_mem_cons.mpr ⟨lw_p27, List.forall_mem_cons.mpr ⟨lw_p28, List.forall_mem_cons.mpr ⟨lw_p29, List.forall_mem_cons.mpr ⟨lw_p30, List.forall_mem_cons.mpr ⟨lw_p31, fun _ h => absurd h List.not_mem_nil⟩⟩⟩⟩⟩⟩⟩⟩⟩⟩⟩⟩⟩⟩⟩⟩
theorem lw_p32 : lw_okq (⟨"InterestTaken", "lot", "(I)I"⟩, 25) := ⟨⟨by decide +kernel, by decide +kernel⟩, lw_t1 (List.mem_of_getElem? (i := 31) rfl), lw_t4 (List.mem_of_getElem? (i := 204) rfl), lw_t4 (List.mem_of_getElem? (i := 205) rfl)⟩
theorem lw_p33 : lw_okq (⟨"InterestTaken", "lowest", "(I)I"⟩, 25) := ⟨⟨by decide +kernel, by decide +kernel⟩, lw_t1 (List.mem_of_getElem? (i := 31) rfl), lw_t5 (List.mem_of_getElem? (i := 56) rfl), lw_t5 (List.mem_of_getElem? (i := 57) rfl)⟩
theorem lw_p34 : lw_okq (⟨"InterestTaken", "allHeard", "()I"⟩, 25) := ⟨⟨by decide +kernel, by decide +kernel⟩, lw_t1 (List.mem_of_getElem? (i := 31) rfl), lw_t5 (List.mem_of_getElem? (i := 82) rfl), lw_t5 (List.mem_of_getElem? (i := 83) rfl)⟩
theorem lw_p35 : lw_okq (⟨"InterestTaken", "tellsSaver", "(JI)J"⟩, 25) := ⟨⟨by decide +kernel, by decide +kernel⟩, lw_t1 (List.mem_of_getElem? (i := 31) rfl), lw_t5 (List.mem_of_getElem? (i := 93) rfl), lw_t5 (List.mem_of_getElem? (i := 94) rfl)⟩
theorem lw_p36 : lw_okq (⟨"InterestTakenModel", "faultOf", "(I)I"⟩, 40) := ⟨⟨by decide +kernel, by decide +kernel⟩, lw_t5 (List.mem_of_getElem? (i := 97) rfl), lw_t6 (List.mem_of_getElem? (i := 6) rfl), lw_t6 (List.mem_of_getElem? (i := 7) rfl)⟩
theorem lw_p37 : lw_okq (⟨"InterestTakenModel", "readsParts", "(I)I"⟩, 40) := ⟨⟨by decide +kernel, by decide +kernel⟩, lw_t5 (List.mem_of_getElem? (i := 97) rfl), lw_t6 (List.mem_of_getElem? (i := 10) rfl), lw_t6 (List.mem_of_getElem? (i := 11) rfl)⟩
theorem lw_p38 : lw_okq (⟨"InterestTakenModel", "readsSaver", "(II)I"⟩, 40) := ⟨⟨by decide +kernel, by decide +kernel⟩, lw_t5 (List.mem_of_getElem? (i := 97) rfl), lw_t6 (List.mem_of_getElem? (i := 14) rfl), lw_t6 (List.mem_of_getElem? (i := 15) rfl)⟩
theorem lw_p39 : lw_okq (⟨"InterestTakenModel", "figureAt", "(II)I"⟩, 40) := ⟨⟨by decide +kernel, by decide +kernel⟩, lw_t5 (List.mem_of_getElem? (i := 97) rfl), lw_t6 (List.mem_of_getElem? (i := 18) rfl), lw_t6 (List.mem_of_getElem? (i := 19) rfl)⟩
theorem lw_p40 : lw_okq (⟨"InterestTakenModel", "byteAt", "(II)I"⟩, 40) := ⟨⟨by decide +kernel, by decide +kernel⟩, lw_t5 (List.mem_of_getElem? (i := 97) rfl), lw_t6 (List.mem_of_getElem? (i := 22) rfl), lw_t6 (List.mem_of_getElem? (i := 23) rfl)⟩
theorem lw_p41 : lw_okq (⟨"InterestTakenModel", "letterAt", "(II)I"⟩, 40) := ⟨⟨by decide +kernel, by decide +kernel⟩, lw_t5 (List.mem_of_getElem? (i := 97) rfl), lw_t6 (List.mem_of_getElem? (i := 26) rfl), lw_t6 (List.mem_of_getElem? (i := 27) rfl)⟩
theorem lw_p42 : lw_okq (⟨"InterestTakenModel", "readsPartner", "(II)I"⟩, 40) := ⟨⟨by decide +kernel, by decide +kernel⟩, lw_t5 (List.mem_of_getElem? (i := 97) rfl), lw_t6 (List.mem_of_getElem? (i := 30) rfl), lw_t6 (List.mem_of_getElem? (i := 31) rfl)⟩
theorem lw_p43 : lw_okq (⟨"InterestTakenModel", "isSaver", "(I)Z"⟩, 40) := ⟨⟨by decide +kernel, by decide +kernel⟩, lw_t5 (List.mem_of_getElem? (i := 97) rfl), lw_t6 (List.mem_of_getElem? (i := 38) rfl), lw_t6 (List.mem_of_getElem? (i := 39) rfl)⟩
theorem lw_p44 : lw_okq (⟨"InterestTakenModel", "reads", "()V"⟩, 40) := ⟨⟨by decide +kernel, by decide +kernel⟩, lw_t5 (List.mem_of_getElem? (i := 97) rfl), lw_t6 (List.mem_of_getElem? (i := 42) rfl), lw_t6 (List.mem_of_getElem? (i := 43) rfl)⟩
theorem lw_p45 : lw_okq (⟨"InterestTakenModel", "saverOf", "(II)I"⟩, 40) := ⟨⟨by decide +kernel, by decide +kernel⟩, lw_t5 (List.mem_of_getElem? (i := 97) rfl), lw_t6 (List.mem_of_getElem? (i := 46) rfl), lw_t6 (List.mem_of_getElem? (i := 47) rfl)⟩
theorem lw_p46 : lw_okq (⟨"InterestTakenModel", "isPartner", "(I)Z"⟩, 40) := ⟨⟨by decide +kernel, by decide +kernel⟩, lw_t5 (List.mem_of_getElem? (i := 97) rfl), lw_t6 (List.mem_of_getElem? (i := 54) rfl), lw_t6 (List.mem_of_getElem? (i := 55) rfl)⟩
theorem lw_p47 : lw_okq (⟨"InterestTakenModel", "meets", "(I)I"⟩, 40) := ⟨⟨by decide +kernel, by decide +kernel⟩, lw_t5 (List.mem_of_getElem? (i := 97) rfl), lw_t6 (List.mem_of_getElem? (i := 84) rfl), lw_t6 (List.mem_of_getElem? (i := 85) rfl)⟩
def lw_privs_3 : List (MethodName × Nat) := [(⟨"InterestTaken", "lot", "(I)I"⟩, 25), (⟨"InterestTaken", "lowest", "(I)I"⟩, 25), (⟨"InterestTaken", "allHeard", "()I"⟩, 25), (⟨"InterestTaken", "tellsSaver", "(JI)J"⟩, 25), (⟨"InterestTakenModel", "faultOf", "(I)I"⟩, 40), (⟨"InterestTakenModel", "readsParts", "(I)I"⟩, 40), (⟨"InterestTakenModel", "readsSaver", "(II)I"⟩, 40), (⟨"InterestTakenModel", "figureAt", "(II)I"⟩, 40), (⟨"InterestTakenModel", "byteAt", "(II)I"⟩, 40), (⟨"InterestTakenModel", "letterAt", "(II)I"⟩, 40), (⟨"InterestTakenModel", "readsPartner", "(II)I"⟩, 40), (⟨"InterestTakenModel", "isSaver", "(I)Z"⟩, 40), (⟨"InterestTakenModel", "reads", "()V"⟩, 40), (⟨"InterestTakenModel", "saverOf", "(II)I"⟩, 40), (⟨"InterestTakenModel", "isPartner", "(I)Z"⟩, 40), (⟨"InterestTakenModel", "meets", "(I)I"⟩, 40)]
theorem lw_r3 : ∀ q ∈ lw_privs_3, lw_okq q := List.forall_mem_cons.mpr ⟨lw_p32, List.forall_mem_cons.mpr ⟨lw_p33, List.forall_mem_cons.mpr ⟨lw_p34, List.forall_mem_cons.mpr ⟨lw_p35, List.forall_mem_cons.mpr ⟨lw_p36, List.forall_mem_cons.mpr ⟨lw_p37, List.forall_mem_cons.mpr ⟨lw_p38, List.forall_mem_cons.mpr ⟨lw_p39, List.forall_mem_cons.mpr ⟨lw_p40, List.forall_mem_cons.mpr ⟨lw_p41, List.forall_mem_cons.mpr ⟨lw_p42, List.forall_mem_cons.mpr ⟨lw_p43, List.forall_mem_cons.mpr ⟨lw_p44, List.forall_mem_cons.mpr ⟨lw_p45, List.forall_mem_cons.mpr ⟨lw_p46, List.forall_mem_cons.mpr ⟨lw_p47, fun _ h => absurd h List.not_mem_nil⟩⟩⟩⟩⟩⟩⟩⟩⟩⟩⟩⟩⟩⟩⟩⟩
theorem lw_p48 : lw_okq (⟨"InterestTakenModel", "owedOf", "(II)I"⟩, 40) := ⟨⟨by decide +kernel, by decide +kernel⟩, lw_t5 (List.mem_of_getElem? (i := 97) rfl), lw_t6 (List.mem_of_getElem? (i := 93) rfl), lw_t6 (List.mem_of_getElem? (i := 94) rfl)⟩
theorem lw_p49 : lw_okq (⟨"InterestTakenModel", "runsTold", "()V"⟩, 40) := ⟨⟨by decide +kernel, by decide +kernel⟩, lw_t5 (List.mem_of_getElem? (i := 97) rfl), lw_t6 (List.mem_of_getElem? (i := 97) rfl), lw_t6 (List.mem_of_getElem? (i := 98) rfl)⟩
theorem lw_p50 : lw_okq (⟨"InterestTakenModel", "asTold", "()V"⟩, 40) := ⟨⟨by decide +kernel, by decide +kernel⟩, lw_t5 (List.mem_of_getElem? (i := 97) rfl), lw_t6 (List.mem_of_getElem? (i := 101) rfl), lw_t6 (List.mem_of_getElem? (i := 102) rfl)⟩
theorem lw_p51 : lw_okq (⟨"InterestTakenModel", "lays", "(II)V"⟩, 40) := ⟨⟨by decide +kernel, by decide +kernel⟩, lw_t5 (List.mem_of_getElem? (i := 97) rfl), lw_t6 (List.mem_of_getElem? (i := 105) rfl), lw_t6 (List.mem_of_getElem? (i := 106) rfl)⟩
theorem lw_p52 : lw_okq (⟨"InterestTakenModel", "noCalls", "()V"⟩, 40) := ⟨⟨by decide +kernel, by decide +kernel⟩, lw_t5 (List.mem_of_getElem? (i := 97) rfl), lw_t6 (List.mem_of_getElem? (i := 109) rfl), lw_t6 (List.mem_of_getElem? (i := 110) rfl)⟩
theorem lw_p53 : lw_okq (⟨"InterestTakenModel", "runs", "()V"⟩, 40) := ⟨⟨by decide +kernel, by decide +kernel⟩, lw_t5 (List.mem_of_getElem? (i := 97) rfl), lw_t6 (List.mem_of_getElem? (i := 116) rfl), lw_t6 (List.mem_of_getElem? (i := 117) rfl)⟩
theorem lw_p54 : lw_okq (⟨"InterestTakenModel", "goesBy", "(I)V"⟩, 40) := ⟨⟨by decide +kernel, by decide +kernel⟩, lw_t5 (List.mem_of_getElem? (i := 97) rfl), lw_t6 (List.mem_of_getElem? (i := 120) rfl), lw_t6 (List.mem_of_getElem? (i := 121) rfl)⟩
theorem lw_p55 : lw_okq (⟨"InterestTakenModel", "hears", "(II)V"⟩, 40) := ⟨⟨by decide +kernel, by decide +kernel⟩, lw_t5 (List.mem_of_getElem? (i := 97) rfl), lw_t6 (List.mem_of_getElem? (i := 124) rfl), lw_t6 (List.mem_of_getElem? (i := 125) rfl)⟩
theorem lw_p56 : lw_okq (⟨"InterestTakenModel", "allOwed", "(I)I"⟩, 40) := ⟨⟨by decide +kernel, by decide +kernel⟩, lw_t5 (List.mem_of_getElem? (i := 97) rfl), lw_t6 (List.mem_of_getElem? (i := 128) rfl), lw_t6 (List.mem_of_getElem? (i := 129) rfl)⟩
theorem lw_p57 : lw_okq (⟨"InterestTakenModel", "heardOf", "(III)I"⟩, 40) := ⟨⟨by decide +kernel, by decide +kernel⟩, lw_t5 (List.mem_of_getElem? (i := 97) rfl), lw_t6 (List.mem_of_getElem? (i := 136) rfl), lw_t6 (List.mem_of_getElem? (i := 137) rfl)⟩
theorem lw_p58 : lw_okq (⟨"InterestTakenModel", "leftOf", "(II)I"⟩, 40) := ⟨⟨by decide +kernel, by decide +kernel⟩, lw_t5 (List.mem_of_getElem? (i := 97) rfl), lw_t6 (List.mem_of_getElem? (i := 144) rfl), lw_t6 (List.mem_of_getElem? (i := 145) rfl)⟩
theorem lw_p59 : lw_okq (⟨"InterestTakenModel", "runOf", "()I"⟩, 40) := ⟨⟨by decide +kernel, by decide +kernel⟩, lw_t5 (List.mem_of_getElem? (i := 97) rfl), lw_t6 (List.mem_of_getElem? (i := 152) rfl), lw_t6 (List.mem_of_getElem? (i := 153) rfl)⟩
theorem lw_p60 : lw_okq (⟨"InterestTakenModel", "yawnOf", "(I)I"⟩, 40) := ⟨⟨by decide +kernel, by decide +kernel⟩, lw_t5 (List.mem_of_getElem? (i := 97) rfl), lw_t6 (List.mem_of_getElem? (i := 160) rfl), lw_t6 (List.mem_of_getElem? (i := 161) rfl)⟩
theorem lw_p61 : lw_okq (⟨"InterestTakenModel", "mostNow", "()I"⟩, 40) := ⟨⟨by decide +kernel, by decide +kernel⟩, lw_t5 (List.mem_of_getElem? (i := 97) rfl), lw_t6 (List.mem_of_getElem? (i := 168) rfl), lw_t6 (List.mem_of_getElem? (i := 169) rfl)⟩
theorem lw_p62 : lw_okq (⟨"InterestTakenModel", "allHeard", "(I)I"⟩, 40) := ⟨⟨by decide +kernel, by decide +kernel⟩, lw_t5 (List.mem_of_getElem? (i := 97) rfl), lw_t6 (List.mem_of_getElem? (i := 172) rfl), lw_t6 (List.mem_of_getElem? (i := 173) rfl)⟩
theorem lw_p63 : lw_okq (⟨"InterestTakenModel", "holdNow", "()I"⟩, 40) := ⟨⟨by decide +kernel, by decide +kernel⟩, lw_t5 (List.mem_of_getElem? (i := 97) rfl), lw_t6 (List.mem_of_getElem? (i := 180) rfl), lw_t6 (List.mem_of_getElem? (i := 181) rfl)⟩
def lw_privs_4 : List (MethodName × Nat) := [(⟨"InterestTakenModel", "owedOf", "(II)I"⟩, 40), (⟨"InterestTakenModel", "runsTold", "()V"⟩, 40), (⟨"InterestTakenModel", "asTold", "()V"⟩, 40), (⟨"InterestTakenModel", "lays", "(II)V"⟩, 40), (⟨"InterestTakenModel", "noCalls", "()V"⟩, 40), (⟨"InterestTakenModel", "runs", "()V"⟩, 40), (⟨"InterestTakenModel", "goesBy", "(I)V"⟩, 40), (⟨"InterestTakenModel", "hears", "(II)V"⟩, 40), (⟨"InterestTakenModel", "allOwed", "(I)I"⟩, 40), (⟨"InterestTakenModel", "heardOf", "(III)I"⟩, 40), (⟨"InterestTakenModel", "leftOf", "(II)I"⟩, 40), (⟨"InterestTakenModel", "runOf", "()I"⟩, 40), (⟨"InterestTakenModel", "yawnOf", "(I)I"⟩, 40), (⟨"InterestTakenModel", "mostNow", "()I"⟩, 40), (⟨"InterestTakenModel", "allHeard", "(I)I"⟩, 40), (⟨"InterestTakenModel", "holdNow", "()I"⟩, 40)]
theorem lw_r4 : ∀ q ∈ lw_privs_4, lw_okq q := List.forall_mem_cons.mpr ⟨lw_p48, List.forall_mem_cons.mpr ⟨lw_p49, List.forall_mem_cons.mpr ⟨lw_p50, List.forall_mem_cons.mpr ⟨lw_p51, List.forall_mem_cons.mpr ⟨lw_p52, List.forall_mem_cons.mpr ⟨lw_p53, List.forall_mem_cons.mpr ⟨lw_p54, List.forall_mem_cons.mpr ⟨lw_p55, List.forall_mem_cons.mpr ⟨lw_p56, List.forall_mem_cons.mpr ⟨lw_p57, List.forall_mem_cons.mpr ⟨lw_p58, List.forall_mem_cons.mpr ⟨lw_p59, List.forall_mem_cons.mpr ⟨lw_p60, List.forall_mem_cons.mpr ⟨lw_p61, List.forall_mem_cons.mpr ⟨lw_p62, List.forall_mem_cons.mpr ⟨lw_p63, fun _ h => absurd h List.not_mem_nil⟩⟩⟩⟩⟩⟩⟩⟩⟩⟩⟩⟩⟩⟩⟩⟩
theorem lw_p64 : lw_okq (⟨"InterestTakenModel", "drawOf", "(II)I"⟩, 40) := ⟨⟨by decide +kernel, by decide +kernel⟩, lw_t5 (List.mem_of_getElem? (i := 97) rfl), lw_t6 (List.mem_of_getElem? (i := 188) rfl), lw_t6 (List.mem_of_getElem? (i := 189) rfl)⟩
theorem lw_p65 : lw_okq (⟨"InterestTakenModel", "hireOf", "(I)I"⟩, 40) := ⟨⟨by decide +kernel, by decide +kernel⟩, lw_t5 (List.mem_of_getElem? (i := 97) rfl), lw_t6 (List.mem_of_getElem? (i := 196) rfl), lw_t6 (List.mem_of_getElem? (i := 197) rfl)⟩
theorem lw_p66 : lw_okq (⟨"InterestTakenModel", "matchNow", "()I"⟩, 40) := ⟨⟨by decide +kernel, by decide +kernel⟩, lw_t5 (List.mem_of_getElem? (i := 97) rfl), lw_t6 (List.mem_of_getElem? (i := 204) rfl), lw_t6 (List.mem_of_getElem? (i := 205) rfl)⟩
theorem lw_p67 : lw_okq (⟨"InterestTakenModel", "neverNow", "()I"⟩, 40) := ⟨⟨by decide +kernel, by decide +kernel⟩, lw_t5 (List.mem_of_getElem? (i := 97) rfl), lw_t6 (List.mem_of_getElem? (i := 220) rfl), lw_t6 (List.mem_of_getElem? (i := 221) rfl)⟩
theorem lw_p68 : lw_okq (⟨"InterestTakenModel", "isSeen", "()Z"⟩, 40) := ⟨⟨by decide +kernel, by decide +kernel⟩, lw_t5 (List.mem_of_getElem? (i := 97) rfl), lw_t6 (List.mem_of_getElem? (i := 224) rfl), lw_t6 (List.mem_of_getElem? (i := 225) rfl)⟩
theorem lw_p69 : lw_okq (⟨"InterestTakenModel", "sumsBy", "(I)I"⟩, 40) := ⟨⟨by decide +kernel, by decide +kernel⟩, lw_t5 (List.mem_of_getElem? (i := 97) rfl), lw_t6 (List.mem_of_getElem? (i := 232) rfl), lw_t6 (List.mem_of_getElem? (i := 233) rfl)⟩
theorem lw_p70 : lw_okq (⟨"InterestTakenModel", "ratesNow", "()I"⟩, 40) := ⟨⟨by decide +kernel, by decide +kernel⟩, lw_t5 (List.mem_of_getElem? (i := 97) rfl), lw_t7 (List.mem_of_getElem? (i := 0) rfl), lw_t7 (List.mem_of_getElem? (i := 1) rfl)⟩
theorem lw_p71 : lw_okq (⟨"InterestTakenModel", "askOf", "(I)I"⟩, 40) := ⟨⟨by decide +kernel, by decide +kernel⟩, lw_t5 (List.mem_of_getElem? (i := 97) rfl), lw_t7 (List.mem_of_getElem? (i := 8) rfl), lw_t7 (List.mem_of_getElem? (i := 9) rfl)⟩
theorem lw_p72 : lw_okq (⟨"InterestTakenModel", "peaceOf", "(II)J"⟩, 40) := ⟨⟨by decide +kernel, by decide +kernel⟩, lw_t5 (List.mem_of_getElem? (i := 97) rfl), lw_t7 (List.mem_of_getElem? (i := 16) rfl), lw_t7 (List.mem_of_getElem? (i := 17) rfl)⟩
theorem lw_p73 : lw_okq (⟨"InterestTakenModel", "termOf", "(III)I"⟩, 40) := ⟨⟨by decide +kernel, by decide +kernel⟩, lw_t5 (List.mem_of_getElem? (i := 97) rfl), lw_t7 (List.mem_of_getElem? (i := 31) rfl), lw_t7 (List.mem_of_getElem? (i := 32) rfl)⟩
theorem lw_p74 : lw_okq (⟨"InterestTakenModel", "lacks", "(III)I"⟩, 40) := ⟨⟨by decide +kernel, by decide +kernel⟩, lw_t5 (List.mem_of_getElem? (i := 97) rfl), lw_t7 (List.mem_of_getElem? (i := 48) rfl), lw_t7 (List.mem_of_getElem? (i := 49) rfl)⟩
theorem lw_p75 : lw_okq (⟨"InterestTakenModel", "keep", "(III)V"⟩, 40) := ⟨⟨by decide +kernel, by decide +kernel⟩, lw_t5 (List.mem_of_getElem? (i := 97) rfl), lw_t7 (List.mem_of_getElem? (i := 52) rfl), lw_t7 (List.mem_of_getElem? (i := 53) rfl)⟩
theorem lw_p76 : lw_okq (⟨"InterestTakenModel", "sumOf", "(I)I"⟩, 40) := ⟨⟨by decide +kernel, by decide +kernel⟩, lw_t5 (List.mem_of_getElem? (i := 97) rfl), lw_t7 (List.mem_of_getElem? (i := 73) rfl), lw_t7 (List.mem_of_getElem? (i := 74) rfl)⟩
theorem lw_p77 : lw_okq (⟨"InterestTakenModel", "saverDigest", "(JI)J"⟩, 40) := ⟨⟨by decide +kernel, by decide +kernel⟩, lw_t5 (List.mem_of_getElem? (i := 97) rfl), lw_t7 (List.mem_of_getElem? (i := 84) rfl), lw_t7 (List.mem_of_getElem? (i := 85) rfl)⟩
theorem lw_p78 : lw_okq (⟨"InterestTakenModel", "partnerDigest", "(JI)J"⟩, 40) := ⟨⟨by decide +kernel, by decide +kernel⟩, lw_t5 (List.mem_of_getElem? (i := 97) rfl), lw_t7 (List.mem_of_getElem? (i := 88) rfl), lw_t7 (List.mem_of_getElem? (i := 89) rfl)⟩
def lw_privs_5 : List (MethodName × Nat) := [(⟨"InterestTakenModel", "drawOf", "(II)I"⟩, 40), (⟨"InterestTakenModel", "hireOf", "(I)I"⟩, 40), (⟨"InterestTakenModel", "matchNow", "()I"⟩, 40), (⟨"InterestTakenModel", "neverNow", "()I"⟩, 40), (⟨"InterestTakenModel", "isSeen", "()Z"⟩, 40), (⟨"InterestTakenModel", "sumsBy", "(I)I"⟩, 40), (⟨"InterestTakenModel", "ratesNow", "()I"⟩, 40), (⟨"InterestTakenModel", "askOf", "(I)I"⟩, 40), (⟨"InterestTakenModel", "peaceOf", "(II)J"⟩, 40), (⟨"InterestTakenModel", "termOf", "(III)I"⟩, 40), (⟨"InterestTakenModel", "lacks", "(III)I"⟩, 40), (⟨"InterestTakenModel", "keep", "(III)V"⟩, 40), (⟨"InterestTakenModel", "sumOf", "(I)I"⟩, 40), (⟨"InterestTakenModel", "saverDigest", "(JI)J"⟩, 40), (⟨"InterestTakenModel", "partnerDigest", "(JI)J"⟩, 40)]
theorem lw_r5 : ∀ q ∈ lw_privs_5, lw_okq q := List.forall_mem_cons.mpr ⟨lw_p64, List.forall_mem_cons.mpr ⟨lw_p65, List.forall_mem_cons.mpr ⟨lw_p66, List.forall_mem_cons.mpr ⟨lw_p67, List.forall_mem_cons.mpr ⟨lw_p68, List.forall_mem_cons.mpr ⟨lw_p69, List.forall_mem_cons.mpr ⟨lw_p70, List.forall_mem_cons.mpr ⟨lw_p71, List.forall_mem_cons.mpr ⟨lw_p72, List.forall_mem_cons.mpr ⟨lw_p73, List.forall_mem_cons.mpr ⟨lw_p74, List.forall_mem_cons.mpr ⟨lw_p75, List.forall_mem_cons.mpr ⟨lw_p76, List.forall_mem_cons.mpr ⟨lw_p77, List.forall_mem_cons.mpr ⟨lw_p78, fun _ h => absurd h List.not_mem_nil⟩⟩⟩⟩⟩⟩⟩⟩⟩⟩⟩⟩⟩⟩⟩
def lw_privs : List (MethodName × Nat) := lw_privs_1 ++ (lw_privs_2 ++ (lw_privs_3 ++ (lw_privs_4 ++ (lw_privs_5))))
def lw_tbl : List Cond := k2_sels lw_privs ++ tables_1
theorem lw_privs_ok : ∀ q ∈ lw_privs, lw_okq q := by
  show ∀ q ∈ lw_privs_1 ++ (lw_privs_2 ++ (lw_privs_3 ++ (lw_privs_4 ++ (lw_privs_5)))), lw_okq q
  exact List.forall_mem_append.mpr ⟨lw_r1, List.forall_mem_append.mpr ⟨lw_r2, List.forall_mem_append.mpr ⟨lw_r3, List.forall_mem_append.mpr ⟨lw_r4, lw_r5⟩⟩⟩⟩
-- ===== ONE list of words for every method: the tables' words that hold all through a run =====
def lw_all : List Cond := lw_tbl.filter goodWord
/-- a word of the tables by its place: claim/WORDS.tsv -/
theorem lw_w {w : Cond} (i : Nat) (h : lw_tbl[i]? = some w) (g : goodWord w = true) : w ∈ lw_all := List.mem_filter.mpr ⟨List.mem_of_getElem? h, g⟩
theorem lw_all_tbl {w : Cond} (h : w ∈ lw_all) : w ∈ lw_tbl := (List.mem_filter.mp h).1
theorem lw_self : GoodIn lw_all lw_all := fun w h => ⟨h, good_of_word (List.mem_filter.mp h).2⟩
/-- a class's field words, by their places -/
theorem lw_in (ws : List Cond) (ps : List Nat) (hp : ws = ps.filterMap (fun i => lw_tbl[i]?)) (hg : ws.all goodWord = true) : ∀ w ∈ ws, w ∈ lw_all := by
  intro w h
  have h1 := List.all_eq_true.mp hg w h
  rw [hp] at h
  obtain ⟨i, -, hi⟩ := List.mem_filterMap.mp h
  exact lw_w i hi h1
/-- the words of a contract for the method y with code b, L locals, answer r -/
abbrev ws_ (y : MethodName) (b : ByteArray) (L : Nat) (r : Option FieldType) : List Cond := Cond.code y b L r :: lw_all
theorem lw_meth {y : MethodName} {b : ByteArray} {L : Nat} {r : Option FieldType} (h : Cond.code y b L r ∈ lw_all) : GoodIn lw_all (ws_ y b L r) := by
  intro w hw
  rcases List.mem_cons.mp hw with e | e
  · rw [e]
    exact lw_self _ h
  · exact lw_self _ e
theorem lw_app {a c : List Cond} (ha : ∀ w ∈ a, w ∈ lw_all) (hc : GoodIn lw_all c) : GoodIn lw_all (a ++ c) := by
  intro w hw
  rcases List.mem_append.mp hw with e | e
  · exact lw_self w (ha w e)
  · exact hc w e
/-- what a call through an object asks: cwV n hts (lw_V ..) -/
theorem lw_V {own : String} {idx : Nat} {C : String} {y : MethodName} {b : ByteArray} {L : Nat} {r : Option FieldType} (h1 : Cond.methodLink own idx y ∈ lw_all) (h2 : Cond.instanceMethod y ∈ lw_all) (h3 : Cond.selects C y y ∈ lw_all) (h4 : Cond.initialized C ∈ lw_all) (h5 : Cond.code y b L r ∈ lw_all) : GoodIn lw_all (wsV own idx C y (ws_ y b L r)) := by
  refine lw_app ?_ (lw_meth h5)
  intro w hw
  simp only [List.mem_cons, List.not_mem_nil, or_false] at hw
  rcases hw with e | e | e | e
  · rw [e]; exact h1
  · rw [e]; exact h2
  · rw [e]; exact h3
  · rw [e]; exact h4
/-- what a static call asks: va_cwS n hts (lw_S ..) -/
theorem lw_S {own : String} {idx : Nat} {y : MethodName} {b : ByteArray} {L : Nat} {r : Option FieldType} (h1 : Cond.methodLink own idx y ∈ lw_all) (h2 : Cond.static y ∈ lw_all) (h3 : Cond.initialized y.cls ∈ lw_all) (h4 : Cond.code y b L r ∈ lw_all) : GoodIn lw_all (va_wsS own idx y (ws_ y b L r)) := by
  refine lw_app ?_ (lw_meth h4)
  intro w hw
  simp only [List.mem_cons, List.not_mem_nil, or_false] at hw
  rcases hw with e | e | e
  · rw [e]; exact h1
  · rw [e]; exact h2
  · rw [e]; exact h3
/-- the words of a contract for a method WITH HANDLERS (hh: its table) -/
abbrev wsW_ (y : MethodName) (b : ByteArray) (L : Nat) (r : Option FieldType) (hh : List (Nat × Nat × Nat × Nat)) : List Cond := Cond.codeWith y b L r hh :: lw_all
theorem lw_methW {y : MethodName} {b : ByteArray} {L : Nat} {r : Option FieldType} {hh : List (Nat × Nat × Nat × Nat)} (h : Cond.codeWith y b L r hh ∈ lw_all) : GoodIn lw_all (wsW_ y b L r hh) := by
  intro w hw
  rcases List.mem_cons.mp hw with e | e
  · rw [e]
    exact lw_self _ h
  · exact lw_self _ e
/-- any list of words by their places (lw_in), good -/
theorem lw_good {ws : List Cond} (h : ∀ w ∈ ws, w ∈ lw_all) : GoodIn lw_all ws := fun w hw => lw_self w (h w hw)
/-- what a call of a method with handlers asks: vx_cwVW n hts (lw_VW ..), vx_cwSW n hts (lw_SW ..) -/
theorem lw_VW {own : String} {idx : Nat} {C : String} {y : MethodName} {b : ByteArray} {L : Nat} {r : Option FieldType} {hh : List (Nat × Nat × Nat × Nat)} (h1 : Cond.methodLink own idx y ∈ lw_all) (h2 : Cond.instanceMethod y ∈ lw_all) (h3 : Cond.selects C y y ∈ lw_all) (h4 : Cond.initialized C ∈ lw_all) (h5 : Cond.codeWith y b L r hh ∈ lw_all) : GoodIn lw_all (wsV own idx C y (wsW_ y b L r hh)) := by
  refine lw_app ?_ (lw_methW h5)
  intro w hw
  simp only [List.mem_cons, List.not_mem_nil, or_false] at hw
  rcases hw with e | e | e | e
  · rw [e]; exact h1
  · rw [e]; exact h2
  · rw [e]; exact h3
  · rw [e]; exact h4
theorem lw_SW {own : String} {idx : Nat} {y : MethodName} {b : ByteArray} {L : Nat} {r : Option FieldType} {hh : List (Nat × Nat × Nat × Nat)} (h1 : Cond.methodLink own idx y ∈ lw_all) (h2 : Cond.static y ∈ lw_all) (h3 : Cond.initialized y.cls ∈ lw_all) (h4 : Cond.codeWith y b L r hh ∈ lw_all) : GoodIn lw_all (va_wsS own idx y (wsW_ y b L r hh)) := by
  refine lw_app ?_ (lw_methW h4)
  intro w hw
  simp only [List.mem_cons, List.not_mem_nil, or_false] at hw
  rcases hw with e | e | e
  · rw [e]; exact h1
  · rw [e]; exact h2
  · rw [e]; exact h3
/-- a word by its place in its run of the tables -/
theorem lw_at {r : List Cond} (hr : ∀ w ∈ r, w ∈ lw_tbl) {w : Cond} (i : Nat) (h : r[i]? = some w) : w ∈ lw_tbl := hr w (List.mem_of_getElem? h)
theorem lw_g {w : Cond} (h : w ∈ lw_tbl) (g : goodWord w = true) : w ∈ lw_all := List.mem_filter.mpr ⟨h, g⟩
theorem lw_ms : ∀ w ∈ k2_sels lw_privs, w ∈ lw_tbl := fun w h => show w ∈ k2_sels lw_privs ++ tables_1 from List.mem_append_left _ h
theorem lw_m1 : ∀ w ∈ tables_1_1, w ∈ lw_tbl := fun w h => show w ∈ k2_sels lw_privs ++ tables_1 from List.mem_append_right (k2_sels lw_privs) (show w ∈ tables_1 from List.mem_append_left _ h)
theorem lw_m2 : ∀ w ∈ tables_1_2, w ∈ lw_tbl := fun w h => show w ∈ k2_sels lw_privs ++ tables_1 from List.mem_append_right (k2_sels lw_privs) (show w ∈ tables_1 from List.mem_append_right _ (List.mem_append_left _ h))
theorem lw_m3 : ∀ w ∈ tables_1_3, w ∈ lw_tbl := fun w h => show w ∈ k2_sels lw_privs ++ tables_1 from List.mem_append_right (k2_sels lw_privs) (show w ∈ tables_1 from List.mem_append_right _ (List.mem_append_right _ (List.mem_append_left _ h)))
theorem lw_m4 : ∀ w ∈ tables_1_4, w ∈ lw_tbl := fun w h => show w ∈ k2_sels lw_privs ++ tables_1 from List.mem_append_right (k2_sels lw_privs) (show w ∈ tables_1 from List.mem_append_right _ (List.mem_append_right _ (List.mem_append_right _ (List.mem_append_left _ h))))
theorem lw_m5 : ∀ w ∈ tables_1_5, w ∈ lw_tbl := fun w h => show w ∈ k2_sels lw_privs ++ tables_1 from List.mem_append_right (k2_sels lw_privs) (show w ∈ tables_1 from List.mem_append_right _ (List.mem_append_right _ (List.mem_append_right _ (List.mem_append_right _ (List.mem_append_left _ h)))))
theorem lw_m6 : ∀ w ∈ tables_1_6, w ∈ lw_tbl := fun w h => show w ∈ k2_sels lw_privs ++ tables_1 from List.mem_append_right (k2_sels lw_privs) (show w ∈ tables_1 from List.mem_append_right _ (List.mem_append_right _ (List.mem_append_right _ (List.mem_append_right _ (List.mem_append_right _ (List.mem_append_left _ h))))))
theorem lw_m7 : ∀ w ∈ tables_1_7, w ∈ lw_tbl := fun w h => show w ∈ k2_sels lw_privs ++ tables_1 from List.mem_append_right (k2_sels lw_privs) (show w ∈ tables_1 from List.mem_append_right _ (List.mem_append_right _ (List.mem_append_right _ (List.mem_append_right _ (List.mem_append_right _ (List.mem_append_right _ h))))))
theorem qs0 : (Cond.selects "InterestTaken" ⟨"InterestTaken", "text", "(I)LInterestTaken$Text;"⟩ ⟨"InterestTaken", "text", "(I)LInterestTaken$Text;"⟩) ∈ lw_all := lw_g (lw_at lw_ms 0 rfl) rfl
theorem qs1 : (Cond.selects "java/lang/Throwable" ⟨"java/lang/Throwable", "fillInStackTrace", "(I)Ljava/lang/Throwable;"⟩ ⟨"java/lang/Throwable", "fillInStackTrace", "(I)Ljava/lang/Throwable;"⟩) ∈ lw_all := lw_g (lw_at lw_ms 1 rfl) rfl
theorem qs2 : (Cond.selects "java/util/ArrayList" ⟨"java/util/ArrayList", "add", "(Ljava/lang/Object;[Ljava/lang/Object;I)V"⟩ ⟨"java/util/ArrayList", "add", "(Ljava/lang/Object;[Ljava/lang/Object;I)V"⟩) ∈ lw_all := lw_g (lw_at lw_ms 2 rfl) rfl
theorem qs3 : (Cond.selects "java/util/ArrayList" ⟨"java/util/ArrayList", "grow", "()[Ljava/lang/Object;"⟩ ⟨"java/util/ArrayList", "grow", "()[Ljava/lang/Object;"⟩) ∈ lw_all := lw_g (lw_at lw_ms 3 rfl) rfl
theorem qs4 : (Cond.selects "java/util/ArrayList" ⟨"java/util/ArrayList", "grow", "(I)[Ljava/lang/Object;"⟩ ⟨"java/util/ArrayList", "grow", "(I)[Ljava/lang/Object;"⟩) ∈ lw_all := lw_g (lw_at lw_ms 4 rfl) rfl
theorem qs5 : (Cond.selects "InterestTaken" ⟨"InterestTaken", "isSaver", "(I)Z"⟩ ⟨"InterestTaken", "isSaver", "(I)Z"⟩) ∈ lw_all := lw_g (lw_at lw_ms 5 rfl) rfl
theorem qs6 : (Cond.selects "InterestTaken" ⟨"InterestTaken", "isPartner", "(I)Z"⟩ ⟨"InterestTaken", "isPartner", "(I)Z"⟩) ∈ lw_all := lw_g (lw_at lw_ms 6 rfl) rfl
theorem qs7 : (Cond.selects "java/util/ArrayList" ⟨"java/util/ArrayList", "fastRemove", "([Ljava/lang/Object;I)V"⟩ ⟨"java/util/ArrayList", "fastRemove", "([Ljava/lang/Object;I)V"⟩) ∈ lw_all := lw_g (lw_at lw_ms 7 rfl) rfl
theorem qs8 : (Cond.selects "InterestTaken" ⟨"InterestTaken", "met", "(I)I"⟩ ⟨"InterestTaken", "met", "(I)I"⟩) ∈ lw_all := lw_g (lw_at lw_ms 8 rfl) rfl
theorem qs9 : (Cond.selects "InterestTaken" ⟨"InterestTaken", "find", "()V"⟩ ⟨"InterestTaken", "find", "()V"⟩) ∈ lw_all := lw_g (lw_at lw_ms 9 rfl) rfl
theorem qs10 : (Cond.selects "InterestTaken" ⟨"InterestTaken", "isWar", "(I)Z"⟩ ⟨"InterestTaken", "isWar", "(I)Z"⟩) ∈ lw_all := lw_g (lw_at lw_ms 10 rfl) rfl
theorem qs11 : (Cond.selects "InterestTaken" ⟨"InterestTaken", "mounts", "(II)V"⟩ ⟨"InterestTaken", "mounts", "(II)V"⟩) ∈ lw_all := lw_g (lw_at lw_ms 11 rfl) rfl
theorem qs12 : (Cond.selects "InterestTaken" ⟨"InterestTaken", "isCalled", "(II)Z"⟩ ⟨"InterestTaken", "isCalled", "(II)Z"⟩) ∈ lw_all := lw_g (lw_at lw_ms 12 rfl) rfl
theorem qs13 : (Cond.selects "InterestTaken" ⟨"InterestTaken", "hearsAll", "(II)V"⟩ ⟨"InterestTaken", "hearsAll", "(II)V"⟩) ∈ lw_all := lw_g (lw_at lw_ms 13 rfl) rfl
theorem qs14 : (Cond.selects "InterestTaken" ⟨"InterestTaken", "hears", "(IIILInterestTaken$Ear;)I"⟩ ⟨"InterestTaken", "hears", "(IIILInterestTaken$Ear;)I"⟩) ∈ lw_all := lw_g (lw_at lw_ms 14 rfl) rfl
theorem qs15 : (Cond.selects "InterestTaken" ⟨"InterestTaken", "allOwed", "(I)I"⟩ ⟨"InterestTaken", "allOwed", "(I)I"⟩) ∈ lw_all := lw_g (lw_at lw_ms 15 rfl) rfl
theorem qs16 : (Cond.selects "InterestTaken" ⟨"InterestTaken", "heardBy", "(III)I"⟩ ⟨"InterestTaken", "heardBy", "(III)I"⟩) ∈ lw_all := lw_g (lw_at lw_ms 16 rfl) rfl
theorem qs17 : (Cond.selects "InterestTaken" ⟨"InterestTaken", "mostNow", "()I"⟩ ⟨"InterestTaken", "mostNow", "()I"⟩) ∈ lw_all := lw_g (lw_at lw_ms 17 rfl) rfl
theorem qs18 : (Cond.selects "InterestTaken" ⟨"InterestTaken", "heardInAll", "(I)I"⟩ ⟨"InterestTaken", "heardInAll", "(I)I"⟩) ∈ lw_all := lw_g (lw_at lw_ms 18 rfl) rfl
theorem qs19 : (Cond.selects "InterestTaken" ⟨"InterestTaken", "holdNow", "()I"⟩ ⟨"InterestTaken", "holdNow", "()I"⟩) ∈ lw_all := lw_g (lw_at lw_ms 19 rfl) rfl
theorem qs20 : (Cond.selects "InterestTaken" ⟨"InterestTaken", "drawOf", "(II)I"⟩ ⟨"InterestTaken", "drawOf", "(II)I"⟩) ∈ lw_all := lw_g (lw_at lw_ms 20 rfl) rfl
theorem qs21 : (Cond.selects "InterestTaken" ⟨"InterestTaken", "hireBy", "(I)I"⟩ ⟨"InterestTaken", "hireBy", "(I)I"⟩) ∈ lw_all := lw_g (lw_at lw_ms 21 rfl) rfl
theorem qs22 : (Cond.selects "InterestTaken" ⟨"InterestTaken", "matchNow", "()I"⟩ ⟨"InterestTaken", "matchNow", "()I"⟩) ∈ lw_all := lw_g (lw_at lw_ms 22 rfl) rfl
theorem qs23 : (Cond.selects "InterestTaken" ⟨"InterestTaken", "finds", "(I[Z)Z"⟩ ⟨"InterestTaken", "finds", "(I[Z)Z"⟩) ∈ lw_all := lw_g (lw_at lw_ms 23 rfl) rfl
theorem qs24 : (Cond.selects "InterestTaken" ⟨"InterestTaken", "neverNow", "()I"⟩ ⟨"InterestTaken", "neverNow", "()I"⟩) ∈ lw_all := lw_g (lw_at lw_ms 24 rfl) rfl
theorem qs25 : (Cond.selects "InterestTaken" ⟨"InterestTaken", "isSeen", "()Z"⟩ ⟨"InterestTaken", "isSeen", "()Z"⟩) ∈ lw_all := lw_g (lw_at lw_ms 25 rfl) rfl
theorem qs26 : (Cond.selects "InterestTaken" ⟨"InterestTaken", "sumsOf", "(I)I"⟩ ⟨"InterestTaken", "sumsOf", "(I)I"⟩) ∈ lw_all := lw_g (lw_at lw_ms 26 rfl) rfl
theorem qs27 : (Cond.selects "InterestTaken" ⟨"InterestTaken", "ratesNow", "()I"⟩ ⟨"InterestTaken", "ratesNow", "()I"⟩) ∈ lw_all := lw_g (lw_at lw_ms 27 rfl) rfl
theorem qs28 : (Cond.selects "InterestTaken" ⟨"InterestTaken", "askOf", "(I)I"⟩ ⟨"InterestTaken", "askOf", "(I)I"⟩) ∈ lw_all := lw_g (lw_at lw_ms 28 rfl) rfl
theorem qs29 : (Cond.selects "InterestTaken" ⟨"InterestTaken", "alike", "(II)I"⟩ ⟨"InterestTaken", "alike", "(II)I"⟩) ∈ lw_all := lw_g (lw_at lw_ms 29 rfl) rfl
theorem qs30 : (Cond.selects "InterestTaken" ⟨"InterestTaken", "peaceOf", "(II)J"⟩ ⟨"InterestTaken", "peaceOf", "(II)J"⟩) ∈ lw_all := lw_g (lw_at lw_ms 30 rfl) rfl
theorem qs31 : (Cond.selects "InterestTaken" ⟨"InterestTaken", "termOf", "(III)I"⟩ ⟨"InterestTaken", "termOf", "(III)I"⟩) ∈ lw_all := lw_g (lw_at lw_ms 31 rfl) rfl
theorem qs32 : (Cond.selects "InterestTaken" ⟨"InterestTaken", "lot", "(I)I"⟩ ⟨"InterestTaken", "lot", "(I)I"⟩) ∈ lw_all := lw_g (lw_at lw_ms 32 rfl) rfl
theorem qs33 : (Cond.selects "InterestTaken" ⟨"InterestTaken", "lowest", "(I)I"⟩ ⟨"InterestTaken", "lowest", "(I)I"⟩) ∈ lw_all := lw_g (lw_at lw_ms 33 rfl) rfl
theorem qs34 : (Cond.selects "InterestTaken" ⟨"InterestTaken", "allHeard", "()I"⟩ ⟨"InterestTaken", "allHeard", "()I"⟩) ∈ lw_all := lw_g (lw_at lw_ms 34 rfl) rfl
theorem qs35 : (Cond.selects "InterestTaken" ⟨"InterestTaken", "tellsSaver", "(JI)J"⟩ ⟨"InterestTaken", "tellsSaver", "(JI)J"⟩) ∈ lw_all := lw_g (lw_at lw_ms 35 rfl) rfl
theorem qs36 : (Cond.selects "InterestTakenModel" ⟨"InterestTakenModel", "faultOf", "(I)I"⟩ ⟨"InterestTakenModel", "faultOf", "(I)I"⟩) ∈ lw_all := lw_g (lw_at lw_ms 36 rfl) rfl
theorem qs37 : (Cond.selects "InterestTakenModel" ⟨"InterestTakenModel", "readsParts", "(I)I"⟩ ⟨"InterestTakenModel", "readsParts", "(I)I"⟩) ∈ lw_all := lw_g (lw_at lw_ms 37 rfl) rfl
theorem qs38 : (Cond.selects "InterestTakenModel" ⟨"InterestTakenModel", "readsSaver", "(II)I"⟩ ⟨"InterestTakenModel", "readsSaver", "(II)I"⟩) ∈ lw_all := lw_g (lw_at lw_ms 38 rfl) rfl
theorem qs39 : (Cond.selects "InterestTakenModel" ⟨"InterestTakenModel", "figureAt", "(II)I"⟩ ⟨"InterestTakenModel", "figureAt", "(II)I"⟩) ∈ lw_all := lw_g (lw_at lw_ms 39 rfl) rfl
theorem qs40 : (Cond.selects "InterestTakenModel" ⟨"InterestTakenModel", "byteAt", "(II)I"⟩ ⟨"InterestTakenModel", "byteAt", "(II)I"⟩) ∈ lw_all := lw_g (lw_at lw_ms 40 rfl) rfl
theorem qs41 : (Cond.selects "InterestTakenModel" ⟨"InterestTakenModel", "letterAt", "(II)I"⟩ ⟨"InterestTakenModel", "letterAt", "(II)I"⟩) ∈ lw_all := lw_g (lw_at lw_ms 41 rfl) rfl
theorem qs42 : (Cond.selects "InterestTakenModel" ⟨"InterestTakenModel", "readsPartner", "(II)I"⟩ ⟨"InterestTakenModel", "readsPartner", "(II)I"⟩) ∈ lw_all := lw_g (lw_at lw_ms 42 rfl) rfl
theorem qs43 : (Cond.selects "InterestTakenModel" ⟨"InterestTakenModel", "isSaver", "(I)Z"⟩ ⟨"InterestTakenModel", "isSaver", "(I)Z"⟩) ∈ lw_all := lw_g (lw_at lw_ms 43 rfl) rfl
theorem qs44 : (Cond.selects "InterestTakenModel" ⟨"InterestTakenModel", "reads", "()V"⟩ ⟨"InterestTakenModel", "reads", "()V"⟩) ∈ lw_all := lw_g (lw_at lw_ms 44 rfl) rfl
theorem qs45 : (Cond.selects "InterestTakenModel" ⟨"InterestTakenModel", "saverOf", "(II)I"⟩ ⟨"InterestTakenModel", "saverOf", "(II)I"⟩) ∈ lw_all := lw_g (lw_at lw_ms 45 rfl) rfl
theorem qs46 : (Cond.selects "InterestTakenModel" ⟨"InterestTakenModel", "isPartner", "(I)Z"⟩ ⟨"InterestTakenModel", "isPartner", "(I)Z"⟩) ∈ lw_all := lw_g (lw_at lw_ms 46 rfl) rfl
theorem qs47 : (Cond.selects "InterestTakenModel" ⟨"InterestTakenModel", "meets", "(I)I"⟩ ⟨"InterestTakenModel", "meets", "(I)I"⟩) ∈ lw_all := lw_g (lw_at lw_ms 47 rfl) rfl
theorem qs48 : (Cond.selects "InterestTakenModel" ⟨"InterestTakenModel", "owedOf", "(II)I"⟩ ⟨"InterestTakenModel", "owedOf", "(II)I"⟩) ∈ lw_all := lw_g (lw_at lw_ms 48 rfl) rfl
theorem qs49 : (Cond.selects "InterestTakenModel" ⟨"InterestTakenModel", "runsTold", "()V"⟩ ⟨"InterestTakenModel", "runsTold", "()V"⟩) ∈ lw_all := lw_g (lw_at lw_ms 49 rfl) rfl
theorem qs50 : (Cond.selects "InterestTakenModel" ⟨"InterestTakenModel", "asTold", "()V"⟩ ⟨"InterestTakenModel", "asTold", "()V"⟩) ∈ lw_all := lw_g (lw_at lw_ms 50 rfl) rfl
theorem qs51 : (Cond.selects "InterestTakenModel" ⟨"InterestTakenModel", "lays", "(II)V"⟩ ⟨"InterestTakenModel", "lays", "(II)V"⟩) ∈ lw_all := lw_g (lw_at lw_ms 51 rfl) rfl
theorem qs52 : (Cond.selects "InterestTakenModel" ⟨"InterestTakenModel", "noCalls", "()V"⟩ ⟨"InterestTakenModel", "noCalls", "()V"⟩) ∈ lw_all := lw_g (lw_at lw_ms 52 rfl) rfl
theorem qs53 : (Cond.selects "InterestTakenModel" ⟨"InterestTakenModel", "runs", "()V"⟩ ⟨"InterestTakenModel", "runs", "()V"⟩) ∈ lw_all := lw_g (lw_at lw_ms 53 rfl) rfl
theorem qs54 : (Cond.selects "InterestTakenModel" ⟨"InterestTakenModel", "goesBy", "(I)V"⟩ ⟨"InterestTakenModel", "goesBy", "(I)V"⟩) ∈ lw_all := lw_g (lw_at lw_ms 54 rfl) rfl
theorem qs55 : (Cond.selects "InterestTakenModel" ⟨"InterestTakenModel", "hears", "(II)V"⟩ ⟨"InterestTakenModel", "hears", "(II)V"⟩) ∈ lw_all := lw_g (lw_at lw_ms 55 rfl) rfl
theorem qs56 : (Cond.selects "InterestTakenModel" ⟨"InterestTakenModel", "allOwed", "(I)I"⟩ ⟨"InterestTakenModel", "allOwed", "(I)I"⟩) ∈ lw_all := lw_g (lw_at lw_ms 56 rfl) rfl
theorem qs57 : (Cond.selects "InterestTakenModel" ⟨"InterestTakenModel", "heardOf", "(III)I"⟩ ⟨"InterestTakenModel", "heardOf", "(III)I"⟩) ∈ lw_all := lw_g (lw_at lw_ms 57 rfl) rfl
theorem qs58 : (Cond.selects "InterestTakenModel" ⟨"InterestTakenModel", "leftOf", "(II)I"⟩ ⟨"InterestTakenModel", "leftOf", "(II)I"⟩) ∈ lw_all := lw_g (lw_at lw_ms 58 rfl) rfl
theorem qs59 : (Cond.selects "InterestTakenModel" ⟨"InterestTakenModel", "runOf", "()I"⟩ ⟨"InterestTakenModel", "runOf", "()I"⟩) ∈ lw_all := lw_g (lw_at lw_ms 59 rfl) rfl
theorem qs60 : (Cond.selects "InterestTakenModel" ⟨"InterestTakenModel", "yawnOf", "(I)I"⟩ ⟨"InterestTakenModel", "yawnOf", "(I)I"⟩) ∈ lw_all := lw_g (lw_at lw_ms 60 rfl) rfl
theorem qs61 : (Cond.selects "InterestTakenModel" ⟨"InterestTakenModel", "mostNow", "()I"⟩ ⟨"InterestTakenModel", "mostNow", "()I"⟩) ∈ lw_all := lw_g (lw_at lw_ms 61 rfl) rfl
theorem qs62 : (Cond.selects "InterestTakenModel" ⟨"InterestTakenModel", "allHeard", "(I)I"⟩ ⟨"InterestTakenModel", "allHeard", "(I)I"⟩) ∈ lw_all := lw_g (lw_at lw_ms 62 rfl) rfl
theorem qs63 : (Cond.selects "InterestTakenModel" ⟨"InterestTakenModel", "holdNow", "()I"⟩ ⟨"InterestTakenModel", "holdNow", "()I"⟩) ∈ lw_all := lw_g (lw_at lw_ms 63 rfl) rfl
theorem qs64 : (Cond.selects "InterestTakenModel" ⟨"InterestTakenModel", "drawOf", "(II)I"⟩ ⟨"InterestTakenModel", "drawOf", "(II)I"⟩) ∈ lw_all := lw_g (lw_at lw_ms 64 rfl) rfl
theorem qs65 : (Cond.selects "InterestTakenModel" ⟨"InterestTakenModel", "hireOf", "(I)I"⟩ ⟨"InterestTakenModel", "hireOf", "(I)I"⟩) ∈ lw_all := lw_g (lw_at lw_ms 65 rfl) rfl
theorem qs66 : (Cond.selects "InterestTakenModel" ⟨"InterestTakenModel", "matchNow", "()I"⟩ ⟨"InterestTakenModel", "matchNow", "()I"⟩) ∈ lw_all := lw_g (lw_at lw_ms 66 rfl) rfl
theorem qs67 : (Cond.selects "InterestTakenModel" ⟨"InterestTakenModel", "neverNow", "()I"⟩ ⟨"InterestTakenModel", "neverNow", "()I"⟩) ∈ lw_all := lw_g (lw_at lw_ms 67 rfl) rfl
theorem qs68 : (Cond.selects "InterestTakenModel" ⟨"InterestTakenModel", "isSeen", "()Z"⟩ ⟨"InterestTakenModel", "isSeen", "()Z"⟩) ∈ lw_all := lw_g (lw_at lw_ms 68 rfl) rfl
theorem qs69 : (Cond.selects "InterestTakenModel" ⟨"InterestTakenModel", "sumsBy", "(I)I"⟩ ⟨"InterestTakenModel", "sumsBy", "(I)I"⟩) ∈ lw_all := lw_g (lw_at lw_ms 69 rfl) rfl
theorem qs70 : (Cond.selects "InterestTakenModel" ⟨"InterestTakenModel", "ratesNow", "()I"⟩ ⟨"InterestTakenModel", "ratesNow", "()I"⟩) ∈ lw_all := lw_g (lw_at lw_ms 70 rfl) rfl
theorem qs71 : (Cond.selects "InterestTakenModel" ⟨"InterestTakenModel", "askOf", "(I)I"⟩ ⟨"InterestTakenModel", "askOf", "(I)I"⟩) ∈ lw_all := lw_g (lw_at lw_ms 71 rfl) rfl
theorem qs72 : (Cond.selects "InterestTakenModel" ⟨"InterestTakenModel", "peaceOf", "(II)J"⟩ ⟨"InterestTakenModel", "peaceOf", "(II)J"⟩) ∈ lw_all := lw_g (lw_at lw_ms 72 rfl) rfl
theorem qs73 : (Cond.selects "InterestTakenModel" ⟨"InterestTakenModel", "termOf", "(III)I"⟩ ⟨"InterestTakenModel", "termOf", "(III)I"⟩) ∈ lw_all := lw_g (lw_at lw_ms 73 rfl) rfl
theorem qs74 : (Cond.selects "InterestTakenModel" ⟨"InterestTakenModel", "lacks", "(III)I"⟩ ⟨"InterestTakenModel", "lacks", "(III)I"⟩) ∈ lw_all := lw_g (lw_at lw_ms 74 rfl) rfl
theorem qs75 : (Cond.selects "InterestTakenModel" ⟨"InterestTakenModel", "keep", "(III)V"⟩ ⟨"InterestTakenModel", "keep", "(III)V"⟩) ∈ lw_all := lw_g (lw_at lw_ms 75 rfl) rfl
theorem qs76 : (Cond.selects "InterestTakenModel" ⟨"InterestTakenModel", "sumOf", "(I)I"⟩ ⟨"InterestTakenModel", "sumOf", "(I)I"⟩) ∈ lw_all := lw_g (lw_at lw_ms 76 rfl) rfl
theorem qs77 : (Cond.selects "InterestTakenModel" ⟨"InterestTakenModel", "saverDigest", "(JI)J"⟩ ⟨"InterestTakenModel", "saverDigest", "(JI)J"⟩) ∈ lw_all := lw_g (lw_at lw_ms 77 rfl) rfl
theorem qs78 : (Cond.selects "InterestTakenModel" ⟨"InterestTakenModel", "partnerDigest", "(JI)J"⟩ ⟨"InterestTakenModel", "partnerDigest", "(JI)J"⟩) ∈ lw_all := lw_g (lw_at lw_ms 78 rfl) rfl
