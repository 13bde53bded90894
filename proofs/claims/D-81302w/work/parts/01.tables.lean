-- ===== PART A: goes FIRST, ahead of the names: the tables' words, and 'selects' of the private methods out of them =====
/-- a private method of a class that the tables say can be made, by its rows of tables_1 -/
def lw_okq (q : MethodName × Nat) : Prop := (q.1.cls ≠ "java/lang/invoke/MethodHandle" ∧ q.1.cls ≠ "java/lang/invoke/VarHandle") ∧ Cond.instantiable q.1.cls q.2 ∈ tables_1 ∧ Cond.privateMethod q.1 ∈ tables_1 ∧ Cond.instanceMethod q.1 ∈ tables_1
set_option maxRecDepth 100000
theorem lw_t1 {w : Cond} (h : w ∈ tables_1_1) : w ∈ tables_1 := List.mem_append_left _ h
theorem lw_t2 {w : Cond} (h : w ∈ tables_1_2) : w ∈ tables_1 := List.mem_append_right _ (List.mem_append_left _ h)
theorem lw_t3 {w : Cond} (h : w ∈ tables_1_3) : w ∈ tables_1 := List.mem_append_right _ (List.mem_append_right _ (List.mem_append_left _ h))
theorem lw_t4 {w : Cond} (h : w ∈ tables_1_4) : w ∈ tables_1 := List.mem_append_right _ (List.mem_append_right _ (List.mem_append_right _ (List.mem_append_left _ h)))
theorem lw_t5 {w : Cond} (h : w ∈ tables_1_5) : w ∈ tables_1 := List.mem_append_right _ (List.mem_append_right _ (List.mem_append_right _ (List.mem_append_right _ (List.mem_append_left _ h))))
theorem lw_t6 {w : Cond} (h : w ∈ tables_1_6) : w ∈ tables_1 := List.mem_append_right _ (List.mem_append_right _ (List.mem_append_right _ (List.mem_append_right _ (List.mem_append_right _ (List.mem_append_left _ h)))))
theorem lw_t7 {w : Cond} (h : w ∈ tables_1_7) : w ∈ tables_1 := List.mem_append_right _ (List.mem_append_right _ (List.mem_append_right _ (List.mem_append_right _ (List.mem_append_right _ (List.mem_append_right _ h)))))
theorem lw_p0 : lw_okq (⟨"CallRounds", "noPerson", "(I)Z"⟩, 15) := ⟨⟨by decide +kernel, by decide +kernel⟩, lw_t1 (List.mem_of_getElem? (i := 36) rfl), lw_t1 (List.mem_of_getElem? (i := 130) rfl), lw_t1 (List.mem_of_getElem? (i := 131) rfl)⟩
theorem lw_p1 : lw_okq (⟨"CallRounds", "secretsNow", "()I"⟩, 15) := ⟨⟨by decide +kernel, by decide +kernel⟩, lw_t1 (List.mem_of_getElem? (i := 36) rfl), lw_t1 (List.mem_of_getElem? (i := 137) rfl), lw_t1 (List.mem_of_getElem? (i := 138) rfl)⟩
theorem lw_p2 : lw_okq (⟨"CallRounds", "atFirst", "()I"⟩, 15) := ⟨⟨by decide +kernel, by decide +kernel⟩, lw_t1 (List.mem_of_getElem? (i := 36) rfl), lw_t1 (List.mem_of_getElem? (i := 151) rfl), lw_t1 (List.mem_of_getElem? (i := 152) rfl)⟩
theorem lw_p3 : lw_okq (⟨"CallRounds", "numbersOf", "(II)I"⟩, 15) := ⟨⟨by decide +kernel, by decide +kernel⟩, lw_t1 (List.mem_of_getElem? (i := 36) rfl), lw_t1 (List.mem_of_getElem? (i := 184) rfl), lw_t1 (List.mem_of_getElem? (i := 185) rfl)⟩
theorem lw_p4 : lw_okq (⟨"CallRounds", "tokensNow", "()I"⟩, 15) := ⟨⟨by decide +kernel, by decide +kernel⟩, lw_t1 (List.mem_of_getElem? (i := 36) rfl), lw_t1 (List.mem_of_getElem? (i := 194) rfl), lw_t1 (List.mem_of_getElem? (i := 195) rfl)⟩
theorem lw_p5 : lw_okq (⟨"CallRounds", "all", "()I"⟩, 15) := ⟨⟨by decide +kernel, by decide +kernel⟩, lw_t1 (List.mem_of_getElem? (i := 36) rfl), lw_t2 (List.mem_of_getElem? (i := 4) rfl), lw_t2 (List.mem_of_getElem? (i := 5) rfl)⟩
theorem lw_p6 : lw_okq (⟨"java/util/ArrayList", "add", "(Ljava/lang/Object;[Ljava/lang/Object;I)V"⟩, 3) := ⟨⟨by decide +kernel, by decide +kernel⟩, lw_t1 (List.mem_of_getElem? (i := 44) rfl), lw_t2 (List.mem_of_getElem? (i := 54) rfl), lw_t2 (List.mem_of_getElem? (i := 55) rfl)⟩
theorem lw_p7 : lw_okq (⟨"java/util/ArrayList", "grow", "()[Ljava/lang/Object;"⟩, 3) := ⟨⟨by decide +kernel, by decide +kernel⟩, lw_t1 (List.mem_of_getElem? (i := 44) rfl), lw_t2 (List.mem_of_getElem? (i := 58) rfl), lw_t2 (List.mem_of_getElem? (i := 59) rfl)⟩
theorem lw_p8 : lw_okq (⟨"java/util/ArrayList", "grow", "(I)[Ljava/lang/Object;"⟩, 3) := ⟨⟨by decide +kernel, by decide +kernel⟩, lw_t1 (List.mem_of_getElem? (i := 44) rfl), lw_t2 (List.mem_of_getElem? (i := 62) rfl), lw_t2 (List.mem_of_getElem? (i := 63) rfl)⟩
theorem lw_p9 : lw_okq (⟨"java/util/ArrayList", "fastRemove", "([Ljava/lang/Object;I)V"⟩, 3) := ⟨⟨by decide +kernel, by decide +kernel⟩, lw_t1 (List.mem_of_getElem? (i := 44) rfl), lw_t2 (List.mem_of_getElem? (i := 151) rfl), lw_t2 (List.mem_of_getElem? (i := 152) rfl)⟩
theorem lw_p10 : lw_okq (⟨"CallRounds", "mayRing", "(IIIII)Z"⟩, 15) := ⟨⟨by decide +kernel, by decide +kernel⟩, lw_t1 (List.mem_of_getElem? (i := 36) rfl), lw_t2 (List.mem_of_getElem? (i := 168) rfl), lw_t2 (List.mem_of_getElem? (i := 169) rfl)⟩
theorem lw_p11 : lw_okq (⟨"CallRounds", "layNow", "(I)I"⟩, 15) := ⟨⟨by decide +kernel, by decide +kernel⟩, lw_t1 (List.mem_of_getElem? (i := 36) rfl), lw_t2 (List.mem_of_getElem? (i := 180) rfl), lw_t2 (List.mem_of_getElem? (i := 181) rfl)⟩
theorem lw_p12 : lw_okq (⟨"CallRounds", "lay", "(III)I"⟩, 15) := ⟨⟨by decide +kernel, by decide +kernel⟩, lw_t1 (List.mem_of_getElem? (i := 36) rfl), lw_t2 (List.mem_of_getElem? (i := 184) rfl), lw_t2 (List.mem_of_getElem? (i := 185) rfl)⟩
theorem lw_p13 : lw_okq (⟨"CallRounds", "areExperts", "(I)Z"⟩, 15) := ⟨⟨by decide +kernel, by decide +kernel⟩, lw_t1 (List.mem_of_getElem? (i := 36) rfl), lw_t2 (List.mem_of_getElem? (i := 194) rfl), lw_t2 (List.mem_of_getElem? (i := 195) rfl)⟩
theorem lw_p14 : lw_okq (⟨"CallRounds", "verdictAt", "(I)I"⟩, 15) := ⟨⟨by decide +kernel, by decide +kernel⟩, lw_t1 (List.mem_of_getElem? (i := 36) rfl), lw_t2 (List.mem_of_getElem? (i := 202) rfl), lw_t2 (List.mem_of_getElem? (i := 203) rfl)⟩
theorem lw_p15 : lw_okq (⟨"CallRounds", "layKnown", "(I)V"⟩, 15) := ⟨⟨by decide +kernel, by decide +kernel⟩, lw_t1 (List.mem_of_getElem? (i := 36) rfl), lw_t2 (List.mem_of_getElem? (i := 222) rfl), lw_t2 (List.mem_of_getElem? (i := 223) rfl)⟩
def lw_privs_1 : List (MethodName × Nat) := [(⟨"CallRounds", "noPerson", "(I)Z"⟩, 15), (⟨"CallRounds", "secretsNow", "()I"⟩, 15), (⟨"CallRounds", "atFirst", "()I"⟩, 15), (⟨"CallRounds", "numbersOf", "(II)I"⟩, 15), (⟨"CallRounds", "tokensNow", "()I"⟩, 15), (⟨"CallRounds", "all", "()I"⟩, 15), (⟨"java/util/ArrayList", "add", "(Ljava/lang/Object;[Ljava/lang/Object;I)V"⟩, 3), (⟨"java/util/ArrayList", "grow", "()[Ljava/lang/Object;"⟩, 3), (⟨"java/util/ArrayList", "grow", "(I)[Ljava/lang/Object;"⟩, 3), (⟨"java/util/ArrayList", "fastRemove", "([Ljava/lang/Object;I)V"⟩, 3), (⟨"CallRounds", "mayRing", "(IIIII)Z"⟩, 15), (⟨"CallRounds", "layNow", "(I)I"⟩, 15), (⟨"CallRounds", "lay", "(III)I"⟩, 15), (⟨"CallRounds", "areExperts", "(I)Z"⟩, 15), (⟨"CallRounds", "verdictAt", "(I)I"⟩, 15), (⟨"CallRounds", "layKnown", "(I)V"⟩, 15)]
theorem lw_r1 : ∀ q ∈ lw_privs_1, lw_okq q := List.forall_mem_cons.mpr ⟨lw_p0, List.forall_mem_cons.mpr ⟨lw_p1, List.forall_mem_cons.mpr ⟨lw_p2, List.forall_mem_cons.mpr ⟨lw_p3, List.forall_mem_cons.mpr ⟨lw_p4, List.forall_mem_cons.mpr ⟨lw_p5, List.forall_mem_cons.mpr ⟨lw_p6, List.forall_mem_cons.mpr ⟨lw_p7, List.forall_mem_cons.mpr ⟨lw_p8, List.forall_mem_cons.mpr ⟨lw_p9, List.forall_mem_cons.mpr ⟨lw_p10, List.forall_mem_cons.mpr ⟨lw_p11, List.forall_mem_cons.mpr ⟨lw_p12, List.forall_mem_cons.mpr ⟨lw_p13, List.forall_mem_cons.mpr ⟨lw_p14, List.forall_mem_cons.mpr ⟨lw_p15, fun _ h => absurd h List.not_mem_nil⟩⟩⟩⟩⟩⟩⟩⟩⟩⟩⟩⟩⟩⟩⟩⟩
theorem lw_p16 : lw_okq (⟨"CallRounds", "layAlike", "(III)V"⟩, 15) := ⟨⟨by decide +kernel, by decide +kernel⟩, lw_t1 (List.mem_of_getElem? (i := 36) rfl), lw_t2 (List.mem_of_getElem? (i := 227) rfl), lw_t2 (List.mem_of_getElem? (i := 228) rfl)⟩
theorem lw_p17 : lw_okq (⟨"CallRounds", "seesSame", "(ILCallRounds$Ring;III)Z"⟩, 15) := ⟨⟨by decide +kernel, by decide +kernel⟩, lw_t1 (List.mem_of_getElem? (i := 36) rfl), lw_t2 (List.mem_of_getElem? (i := 231) rfl), lw_t2 (List.mem_of_getElem? (i := 232) rfl)⟩
theorem lw_p18 : lw_okq (⟨"CallRounds", "isJoined", "()Z"⟩, 15) := ⟨⟨by decide +kernel, by decide +kernel⟩, lw_t1 (List.mem_of_getElem? (i := 36) rfl), lw_t3 (List.mem_of_getElem? (i := 11) rfl), lw_t3 (List.mem_of_getElem? (i := 12) rfl)⟩
theorem lw_p19 : lw_okq (⟨"CallRounds", "cameTo", "(IZ)I"⟩, 15) := ⟨⟨by decide +kernel, by decide +kernel⟩, lw_t1 (List.mem_of_getElem? (i := 36) rfl), lw_t3 (List.mem_of_getElem? (i := 15) rfl), lw_t3 (List.mem_of_getElem? (i := 16) rfl)⟩
theorem lw_p20 : lw_okq (⟨"CallRounds", "verdictFirst", "(I)I"⟩, 15) := ⟨⟨by decide +kernel, by decide +kernel⟩, lw_t1 (List.mem_of_getElem? (i := 36) rfl), lw_t3 (List.mem_of_getElem? (i := 59) rfl), lw_t3 (List.mem_of_getElem? (i := 60) rfl)⟩
theorem lw_p21 : lw_okq (⟨"CallRounds", "layNet", "(II)V"⟩, 15) := ⟨⟨by decide +kernel, by decide +kernel⟩, lw_t1 (List.mem_of_getElem? (i := 36) rfl), lw_t3 (List.mem_of_getElem? (i := 99) rfl), lw_t3 (List.mem_of_getElem? (i := 100) rfl)⟩
theorem lw_p22 : lw_okq (⟨"CallRounds", "isWithin", "(IIII)Z"⟩, 15) := ⟨⟨by decide +kernel, by decide +kernel⟩, lw_t1 (List.mem_of_getElem? (i := 36) rfl), lw_t3 (List.mem_of_getElem? (i := 109) rfl), lw_t3 (List.mem_of_getElem? (i := 110) rfl)⟩
theorem lw_p23 : lw_okq (⟨"java/lang/NullPointerException", "getExtendedNPEMessage", "()Ljava/lang/String;"⟩, 8) := ⟨⟨by decide +kernel, by decide +kernel⟩, lw_t3 (List.mem_of_getElem? (i := 148) rfl), lw_t3 (List.mem_of_getElem? (i := 146) rfl), lw_t3 (List.mem_of_getElem? (i := 147) rfl)⟩
theorem lw_p24 : lw_okq (⟨"java/lang/Throwable", "fillInStackTrace", "(I)Ljava/lang/Throwable;"⟩, 6) := ⟨⟨by decide +kernel, by decide +kernel⟩, lw_t3 (List.mem_of_getElem? (i := 160) rfl), lw_t3 (List.mem_of_getElem? (i := 158) rfl), lw_t3 (List.mem_of_getElem? (i := 159) rfl)⟩
theorem lw_p25 : lw_okq (⟨"CallRounds", "refused", "(I)I"⟩, 15) := ⟨⟨by decide +kernel, by decide +kernel⟩, lw_t1 (List.mem_of_getElem? (i := 36) rfl), lw_t3 (List.mem_of_getElem? (i := 207) rfl), lw_t3 (List.mem_of_getElem? (i := 208) rfl)⟩
theorem lw_p26 : lw_okq (⟨"CallRounds", "fails", "(I)I"⟩, 15) := ⟨⟨by decide +kernel, by decide +kernel⟩, lw_t1 (List.mem_of_getElem? (i := 36) rfl), lw_t3 (List.mem_of_getElem? (i := 226) rfl), lw_t3 (List.mem_of_getElem? (i := 227) rfl)⟩
theorem lw_p27 : lw_okq (⟨"CallRounds", "rowIn", "(I)Ljava/lang/Object;"⟩, 15) := ⟨⟨by decide +kernel, by decide +kernel⟩, lw_t1 (List.mem_of_getElem? (i := 36) rfl), lw_t4 (List.mem_of_getElem? (i := 65) rfl), lw_t4 (List.mem_of_getElem? (i := 66) rfl)⟩
theorem lw_p28 : lw_okq (⟨"CallRounds", "failsLong", "(I)J"⟩, 15) := ⟨⟨by decide +kernel, by decide +kernel⟩, lw_t1 (List.mem_of_getElem? (i := 36) rfl), lw_t4 (List.mem_of_getElem? (i := 72) rfl), lw_t4 (List.mem_of_getElem? (i := 73) rfl)⟩
theorem lw_p29 : lw_okq (⟨"CallRounds", "newNet", "([I)I"⟩, 15) := ⟨⟨by decide +kernel, by decide +kernel⟩, lw_t1 (List.mem_of_getElem? (i := 36) rfl), lw_t4 (List.mem_of_getElem? (i := 165) rfl), lw_t4 (List.mem_of_getElem? (i := 166) rfl)⟩
theorem lw_p30 : lw_okq (⟨"CallRounds$Reader", "readsPerson", "()Z"⟩, 4) := ⟨⟨by decide +kernel, by decide +kernel⟩, lw_t4 (List.mem_of_getElem? (i := 169) rfl), lw_t4 (List.mem_of_getElem? (i := 195) rfl), lw_t4 (List.mem_of_getElem? (i := 196) rfl)⟩
theorem lw_p31 : lw_okq (⟨"CallRounds$Reader", "take", "(I)Z"⟩, 4) := ⟨⟨by decide +kernel, by decide +kernel⟩, lw_t4 (List.mem_of_getElem? (i := 169) rfl), lw_t4 (List.mem_of_getElem? (i := 199) rfl), lw_t4 (List.mem_of_getElem? (i := 200) rfl)⟩
def lw_privs_2 : List (MethodName × Nat) := [(⟨"CallRounds", "layAlike", "(III)V"⟩, 15), (⟨"CallRounds", "seesSame", "(ILCallRounds$Ring;III)Z"⟩, 15), (⟨"CallRounds", "isJoined", "()Z"⟩, 15), (⟨"CallRounds", "cameTo", "(IZ)I"⟩, 15), (⟨"CallRounds", "verdictFirst", "(I)I"⟩, 15), (⟨"CallRounds", "layNet", "(II)V"⟩, 15), (⟨"CallRounds", "isWithin", "(IIII)Z"⟩, 15), (⟨"java/lang/NullPointerException", "getExtendedNPEMessage", "()Ljava/lang/String;"⟩, 8), (⟨"java/lang/Throwable", "fillInStackTrace", "(I)Ljava/lang/Throwable;"⟩, 6), (⟨"CallRounds", "refused", "(I)I"⟩, 15), (⟨"CallRounds", "fails", "(I)I"⟩, 15), (⟨"CallRounds", "rowIn", "(I)Ljava/lang/Object;"⟩, 15), (⟨"CallRounds", "failsLong", "(I)J"⟩, 15), (⟨"CallRounds", "newNet", "([I)I"⟩, 15), (⟨"CallRounds$Reader", "readsPerson", "()Z"⟩, 4), (⟨"CallRounds$Reader", "take", "(I)Z"⟩, 4)]
theorem lw_r2 : ∀ q ∈ lw_privs_2, lw_okq q := List.forall_mem_cons.mpr ⟨lw_p16, List.forall_mem_cons.mpr ⟨lw_p17, List.forall_mem_cons.mpr ⟨lw_p18, List.forall_mem_cons.mpr ⟨lw_p19, List.forall_mem_cons.mpr ⟨lw_p20, List.forall_mem_cons.mpr ⟨lw_p21, List.forall_mem_cons.mpr ⟨lw_p22, List.forall_mem_cons.mpr ⟨lw_p23, List.forall_mem_cons.mpr ⟨lw_p24, List.forall_mem_cons.mpr ⟨lw_p25, List.forall_mem_cons.mpr ⟨lw_p26, List.forall_mem_cons.mpr ⟨lw_p27, List.forall_mem_cons.mpr ⟨lw_p28, List.forall_mem_cons.mpr ⟨lw_p29, List.forall_mem_cons.mpr ⟨lw_p30, List.forall_mem_cons.mpr ⟨lw_p31, fun _ h => absurd h List.not_mem_nil⟩⟩⟩⟩⟩⟩⟩⟩⟩⟩⟩⟩⟩⟩⟩⟩
theorem lw_p32 : lw_okq (⟨"CallRounds$Reader", "areThere", "()Z"⟩, 4) := ⟨⟨by decide +kernel, by decide +kernel⟩, lw_t4 (List.mem_of_getElem? (i := 169) rfl), lw_t4 (List.mem_of_getElem? (i := 206) rfl), lw_t4 (List.mem_of_getElem? (i := 207) rfl)⟩
theorem lw_p33 : lw_okq (⟨"CallRounds", "noRing", "(I)Z"⟩, 15) := ⟨⟨by decide +kernel, by decide +kernel⟩, lw_t1 (List.mem_of_getElem? (i := 36) rfl), lw_t5 (List.mem_of_getElem? (i := 23) rfl), lw_t5 (List.mem_of_getElem? (i := 24) rfl)⟩
theorem lw_p34 : lw_okq (⟨"CallRoundsModel", "fails", "(I)I"⟩, 30) := ⟨⟨by decide +kernel, by decide +kernel⟩, lw_t5 (List.mem_of_getElem? (i := 153) rfl), lw_t6 (List.mem_of_getElem? (i := 24) rfl), lw_t6 (List.mem_of_getElem? (i := 25) rfl)⟩
theorem lw_p35 : lw_okq (⟨"CallRoundsModel", "readAll", "(II)I"⟩, 30) := ⟨⟨by decide +kernel, by decide +kernel⟩, lw_t5 (List.mem_of_getElem? (i := 153) rfl), lw_t6 (List.mem_of_getElem? (i := 28) rfl), lw_t6 (List.mem_of_getElem? (i := 29) rfl)⟩
theorem lw_p36 : lw_okq (⟨"CallRoundsModel", "isPerson", "(I)Z"⟩, 30) := ⟨⟨by decide +kernel, by decide +kernel⟩, lw_t5 (List.mem_of_getElem? (i := 153) rfl), lw_t6 (List.mem_of_getElem? (i := 39) rfl), lw_t6 (List.mem_of_getElem? (i := 40) rfl)⟩
theorem lw_p37 : lw_okq (⟨"CallRoundsModel", "stateAt", "(I)I"⟩, 30) := ⟨⟨by decide +kernel, by decide +kernel⟩, lw_t5 (List.mem_of_getElem? (i := 153) rfl), lw_t6 (List.mem_of_getElem? (i := 43) rfl), lw_t6 (List.mem_of_getElem? (i := 44) rfl)⟩
theorem lw_p38 : lw_okq (⟨"CallRoundsModel", "startOf", "(I)I"⟩, 30) := ⟨⟨by decide +kernel, by decide +kernel⟩, lw_t5 (List.mem_of_getElem? (i := 153) rfl), lw_t6 (List.mem_of_getElem? (i := 47) rfl), lw_t6 (List.mem_of_getElem? (i := 48) rfl)⟩
theorem lw_p39 : lw_okq (⟨"CallRoundsModel", "tokensNow", "(I)I"⟩, 30) := ⟨⟨by decide +kernel, by decide +kernel⟩, lw_t5 (List.mem_of_getElem? (i := 153) rfl), lw_t6 (List.mem_of_getElem? (i := 61) rfl), lw_t6 (List.mem_of_getElem? (i := 62) rfl)⟩
theorem lw_p40 : lw_okq (⟨"CallRoundsModel", "isCall", "(I)Z"⟩, 30) := ⟨⟨by decide +kernel, by decide +kernel⟩, lw_t5 (List.mem_of_getElem? (i := 153) rfl), lw_t6 (List.mem_of_getElem? (i := 76) rfl), lw_t6 (List.mem_of_getElem? (i := 77) rfl)⟩
theorem lw_p41 : lw_okq (⟨"CallRoundsModel", "kindOf", "(I)I"⟩, 30) := ⟨⟨by decide +kernel, by decide +kernel⟩, lw_t5 (List.mem_of_getElem? (i := 153) rfl), lw_t6 (List.mem_of_getElem? (i := 80) rfl), lw_t6 (List.mem_of_getElem? (i := 81) rfl)⟩
theorem lw_p42 : lw_okq (⟨"CallRoundsModel", "learnt", "(II)I"⟩, 30) := ⟨⟨by decide +kernel, by decide +kernel⟩, lw_t5 (List.mem_of_getElem? (i := 153) rfl), lw_t6 (List.mem_of_getElem? (i := 84) rfl), lw_t6 (List.mem_of_getElem? (i := 85) rfl)⟩
theorem lw_p43 : lw_okq (⟨"CallRoundsModel", "layNow", "(I)I"⟩, 30) := ⟨⟨by decide +kernel, by decide +kernel⟩, lw_t5 (List.mem_of_getElem? (i := 153) rfl), lw_t6 (List.mem_of_getElem? (i := 110) rfl), lw_t6 (List.mem_of_getElem? (i := 111) rfl)⟩
theorem lw_p44 : lw_okq (⟨"CallRoundsModel", "lookAt", "([III)V"⟩, 30) := ⟨⟨by decide +kernel, by decide +kernel⟩, lw_t5 (List.mem_of_getElem? (i := 153) rfl), lw_t6 (List.mem_of_getElem? (i := 114) rfl), lw_t6 (List.mem_of_getElem? (i := 115) rfl)⟩
theorem lw_p45 : lw_okq (⟨"CallRoundsModel", "lay", "(II)I"⟩, 30) := ⟨⟨by decide +kernel, by decide +kernel⟩, lw_t5 (List.mem_of_getElem? (i := 153) rfl), lw_t6 (List.mem_of_getElem? (i := 118) rfl), lw_t6 (List.mem_of_getElem? (i := 119) rfl)⟩
theorem lw_p46 : lw_okq (⟨"CallRoundsModel", "open", "(III)V"⟩, 30) := ⟨⟨by decide +kernel, by decide +kernel⟩, lw_t5 (List.mem_of_getElem? (i := 153) rfl), lw_t6 (List.mem_of_getElem? (i := 126) rfl), lw_t6 (List.mem_of_getElem? (i := 127) rfl)⟩
theorem lw_p47 : lw_okq (⟨"CallRoundsModel", "close", "(II)V"⟩, 30) := ⟨⟨by decide +kernel, by decide +kernel⟩, lw_t5 (List.mem_of_getElem? (i := 153) rfl), lw_t6 (List.mem_of_getElem? (i := 130) rfl), lw_t6 (List.mem_of_getElem? (i := 131) rfl)⟩
def lw_privs_3 : List (MethodName × Nat) := [(⟨"CallRounds$Reader", "areThere", "()Z"⟩, 4), (⟨"CallRounds", "noRing", "(I)Z"⟩, 15), (⟨"CallRoundsModel", "fails", "(I)I"⟩, 30), (⟨"CallRoundsModel", "readAll", "(II)I"⟩, 30), (⟨"CallRoundsModel", "isPerson", "(I)Z"⟩, 30), (⟨"CallRoundsModel", "stateAt", "(I)I"⟩, 30), (⟨"CallRoundsModel", "startOf", "(I)I"⟩, 30), (⟨"CallRoundsModel", "tokensNow", "(I)I"⟩, 30), (⟨"CallRoundsModel", "isCall", "(I)Z"⟩, 30), (⟨"CallRoundsModel", "kindOf", "(I)I"⟩, 30), (⟨"CallRoundsModel", "learnt", "(II)I"⟩, 30), (⟨"CallRoundsModel", "layNow", "(I)I"⟩, 30), (⟨"CallRoundsModel", "lookAt", "([III)V"⟩, 30), (⟨"CallRoundsModel", "lay", "(II)I"⟩, 30), (⟨"CallRoundsModel", "open", "(III)V"⟩, 30), (⟨"CallRoundsModel", "close", "(II)V"⟩, 30)]
theorem lw_r3 : ∀ q ∈ lw_privs_3, lw_okq q := List.forall_mem_cons.mpr ⟨lw_p32, List.forall_mem_cons.mpr ⟨lw_p33, List.forall_mem_cons.mpr ⟨lw_p34, List.forall_mem_cons.mpr ⟨lw_p35, List.forall_mem_cons.mpr ⟨lw_p36, List.forall_mem_cons.mpr ⟨lw_p37, List.forall_mem_cons.mpr ⟨lw_p38, List.forall_mem_cons.mpr ⟨lw_p39, List.forall_mem_cons.mpr ⟨lw_p40, List.forall_mem_cons.mpr ⟨lw_p41, List.forall_mem_cons.mpr ⟨lw_p42, List.forall_mem_cons.mpr ⟨lw_p43, List.forall_mem_cons.mpr ⟨lw_p44, List.forall_mem_cons.mpr ⟨lw_p45, List.forall_mem_cons.mpr ⟨lw_p46, List.forall_mem_cons.mpr ⟨lw_p47, fun _ h => absurd h List.not_mem_nil⟩⟩⟩⟩⟩⟩⟩⟩⟩⟩⟩⟩⟩⟩⟩⟩
theorem lw_p48 : lw_okq (⟨"CallRoundsModel", "areExperts", "(II)Z"⟩, 30) := ⟨⟨by decide +kernel, by decide +kernel⟩, lw_t5 (List.mem_of_getElem? (i := 153) rfl), lw_t6 (List.mem_of_getElem? (i := 134) rfl), lw_t6 (List.mem_of_getElem? (i := 135) rfl)⟩
theorem lw_p49 : lw_okq (⟨"CallRoundsModel", "add", "(II)V"⟩, 30) := ⟨⟨by decide +kernel, by decide +kernel⟩, lw_t5 (List.mem_of_getElem? (i := 153) rfl), lw_t6 (List.mem_of_getElem? (i := 138) rfl), lw_t6 (List.mem_of_getElem? (i := 139) rfl)⟩
theorem lw_p50 : lw_okq (⟨"CallRoundsModel", "verdictAt", "(I)I"⟩, 30) := ⟨⟨by decide +kernel, by decide +kernel⟩, lw_t5 (List.mem_of_getElem? (i := 153) rfl), lw_t6 (List.mem_of_getElem? (i := 146) rfl), lw_t6 (List.mem_of_getElem? (i := 147) rfl)⟩
theorem lw_p51 : lw_okq (⟨"CallRoundsModel", "layAlike", "(I)V"⟩, 30) := ⟨⟨by decide +kernel, by decide +kernel⟩, lw_t5 (List.mem_of_getElem? (i := 153) rfl), lw_t6 (List.mem_of_getElem? (i := 166) rfl), lw_t6 (List.mem_of_getElem? (i := 167) rfl)⟩
theorem lw_p52 : lw_okq (⟨"CallRoundsModel", "layRow", "(I)I"⟩, 30) := ⟨⟨by decide +kernel, by decide +kernel⟩, lw_t5 (List.mem_of_getElem? (i := 153) rfl), lw_t6 (List.mem_of_getElem? (i := 170) rfl), lw_t6 (List.mem_of_getElem? (i := 171) rfl)⟩
theorem lw_p53 : lw_okq (⟨"CallRoundsModel", "seesAlike", "(I)Z"⟩, 30) := ⟨⟨by decide +kernel, by decide +kernel⟩, lw_t5 (List.mem_of_getElem? (i := 153) rfl), lw_t6 (List.mem_of_getElem? (i := 174) rfl), lw_t6 (List.mem_of_getElem? (i := 175) rfl)⟩
theorem lw_p54 : lw_okq (⟨"CallRoundsModel", "layOther", "(II)V"⟩, 30) := ⟨⟨by decide +kernel, by decide +kernel⟩, lw_t5 (List.mem_of_getElem? (i := 153) rfl), lw_t6 (List.mem_of_getElem? (i := 201) rfl), lw_t6 (List.mem_of_getElem? (i := 202) rfl)⟩
theorem lw_p55 : lw_okq (⟨"CallRoundsModel", "verdictFrom", "([III)I"⟩, 30) := ⟨⟨by decide +kernel, by decide +kernel⟩, lw_t5 (List.mem_of_getElem? (i := 153) rfl), lw_t6 (List.mem_of_getElem? (i := 213) rfl), lw_t6 (List.mem_of_getElem? (i := 214) rfl)⟩
theorem lw_p56 : lw_okq (⟨"CallRoundsModel", "layNet", "(II)V"⟩, 30) := ⟨⟨by decide +kernel, by decide +kernel⟩, lw_t5 (List.mem_of_getElem? (i := 153) rfl), lw_t6 (List.mem_of_getElem? (i := 221) rfl), lw_t6 (List.mem_of_getElem? (i := 222) rfl)⟩
theorem lw_p57 : lw_okq (⟨"CallRoundsModel", "lost", "(I)J"⟩, 30) := ⟨⟨by decide +kernel, by decide +kernel⟩, lw_t5 (List.mem_of_getElem? (i := 153) rfl), lw_t7 (List.mem_of_getElem? (i := 5) rfl), lw_t7 (List.mem_of_getElem? (i := 6) rfl)⟩
theorem lw_p58 : lw_okq (⟨"CallRoundsModel", "begins", "(I)V"⟩, 30) := ⟨⟨by decide +kernel, by decide +kernel⟩, lw_t5 (List.mem_of_getElem? (i := 153) rfl), lw_t7 (List.mem_of_getElem? (i := 17) rfl), lw_t7 (List.mem_of_getElem? (i := 18) rfl)⟩
def lw_privs_4 : List (MethodName × Nat) := [(⟨"CallRoundsModel", "areExperts", "(II)Z"⟩, 30), (⟨"CallRoundsModel", "add", "(II)V"⟩, 30), (⟨"CallRoundsModel", "verdictAt", "(I)I"⟩, 30), (⟨"CallRoundsModel", "layAlike", "(I)V"⟩, 30), (⟨"CallRoundsModel", "layRow", "(I)I"⟩, 30), (⟨"CallRoundsModel", "seesAlike", "(I)Z"⟩, 30), (⟨"CallRoundsModel", "layOther", "(II)V"⟩, 30), (⟨"CallRoundsModel", "verdictFrom", "([III)I"⟩, 30), (⟨"CallRoundsModel", "layNet", "(II)V"⟩, 30), (⟨"CallRoundsModel", "lost", "(I)J"⟩, 30), (⟨"CallRoundsModel", "begins", "(I)V"⟩, 30)]
theorem lw_r4 : ∀ q ∈ lw_privs_4, lw_okq q := List.forall_mem_cons.mpr ⟨lw_p48, List.forall_mem_cons.mpr ⟨lw_p49, List.forall_mem_cons.mpr ⟨lw_p50, List.forall_mem_cons.mpr ⟨lw_p51, List.forall_mem_cons.mpr ⟨lw_p52, List.forall_mem_cons.mpr ⟨lw_p53, List.forall_mem_cons.mpr ⟨lw_p54, List.forall_mem_cons.mpr ⟨lw_p55, List.forall_mem_cons.mpr ⟨lw_p56, List.forall_mem_cons.mpr ⟨lw_p57, List.forall_mem_cons.mpr ⟨lw_p58, fun _ h => absurd h List.not_mem_nil⟩⟩⟩⟩⟩⟩⟩⟩⟩⟩⟩
def lw_privs : List (MethodName × Nat) := lw_privs_1 ++ (lw_privs_2 ++ (lw_privs_3 ++ (lw_privs_4)))
def lw_tbl : List Cond := k2_sels lw_privs ++ tables_1
theorem lw_privs_ok : ∀ q ∈ lw_privs, lw_okq q := by
  show ∀ q ∈ lw_privs_1 ++ (lw_privs_2 ++ (lw_privs_3 ++ (lw_privs_4))), lw_okq q
  exact List.forall_mem_append.mpr ⟨lw_r1, List.forall_mem_append.mpr ⟨lw_r2, List.forall_mem_append.mpr ⟨lw_r3, lw_r4⟩⟩⟩
-- ===== ONE list of words for every method: the tables' words that hold all through a run =====
def lw_all : List Cond := lw_tbl.filter goodWord
/-- a word of the tables by its place: claim/WORDS.tsv -/
theorem lw_w {w : Cond} (i : Nat) (h : lw_tbl[i]? = some w) (g : goodWord w = true) : w ∈ lw_all := List.mem_filter.mpr ⟨List.mem_of_getElem? h, g⟩
theorem lw_all_tbl {w : Cond} (h : w ∈ lw_all) : w ∈ lw_tbl := (List.mem_filter.mp h).1
theorem lw_self : GoodIn lw_all lw_all := fun w h => ⟨h, good_of_word (List.mem_filter.mp h).2⟩
/-- a class's field words, by their places -/
theorem lw_in (ws : List Cond) (ps : List Nat) (hp : ws = ps.filterMap (fun i => lw_tbl[i]?)) (hg : ws.all goodWord = true) : ∀ w ∈ ws, w ∈ lw_all := by
  intro w h
  have h1 := List.all_eq_true.mp hg w h
  rw [hp] at h
  obtain ⟨i, -, hi⟩ := List.mem_filterMap.mp h
  exact lw_w i hi h1
/-- the words of a contract for the method y with code b, L locals, answer r -/
abbrev ws_ (y : MethodName) (b : ByteArray) (L : Nat) (r : Option FieldType) : List Cond := Cond.code y b L r :: lw_all
theorem lw_meth {y : MethodName} {b : ByteArray} {L : Nat} {r : Option FieldType} (h : Cond.code y b L r ∈ lw_all) : GoodIn lw_all (ws_ y b L r) := by
  intro w hw
  rcases List.mem_cons.mp hw with e | e
  · rw [e]
    exact lw_self _ h
  · exact lw_self _ e
theorem lw_app {a c : List Cond} (ha : ∀ w ∈ a, w ∈ lw_all) (hc : GoodIn lw_all c) : GoodIn lw_all (a ++ c) := by
  intro w hw
  rcases List.mem_append.mp hw with e | e
  · exact lw_self w (ha w e)
  · exact hc w e
/-- what a call through an object asks: cwV n hts (lw_V ..) -/
theorem lw_V {own : String} {idx : Nat} {C : String} {y : MethodName} {b : ByteArray} {L : Nat} {r : Option FieldType} (h1 : Cond.methodLink own idx y ∈ lw_all) (h2 : Cond.instanceMethod y ∈ lw_all) (h3 : Cond.selects C y y ∈ lw_all) (h4 : Cond.initialized C ∈ lw_all) (h5 : Cond.code y b L r ∈ lw_all) : GoodIn lw_all (wsV own idx C y (ws_ y b L r)) := by
  refine lw_app ?_ (lw_meth h5)
  intro w hw
  simp only [List.mem_cons, List.not_mem_nil, or_false] at hw
  rcases hw with e | e | e | e
  · rw [e]; exact h1
  · rw [e]; exact h2
  · rw [e]; exact h3
  · rw [e]; exact h4
/-- what a static call asks: va_cwS n hts (lw_S ..) -/
theorem lw_S {own : String} {idx : Nat} {y : MethodName} {b : ByteArray} {L : Nat} {r : Option FieldType} (h1 : Cond.methodLink own idx y ∈ lw_all) (h2 : Cond.static y ∈ lw_all) (h3 : Cond.initialized y.cls ∈ lw_all) (h4 : Cond.code y b L r ∈ lw_all) : GoodIn lw_all (va_wsS own idx y (ws_ y b L r)) := by
  refine lw_app ?_ (lw_meth h4)
  intro w hw
  simp only [List.mem_cons, List.not_mem_nil, or_false] at hw
  rcases hw with e | e | e
  · rw [e]; exact h1
  · rw [e]; exact h2
  · rw [e]; exact h3
/-- the words of a contract for a method WITH HANDLERS (hh: its table) -/
abbrev wsW_ (y : MethodName) (b : ByteArray) (L : Nat) (r : Option FieldType) (hh : List (Nat × Nat × Nat × Nat)) : List Cond := Cond.codeWith y b L r hh :: lw_all
theorem lw_methW {y : MethodName} {b : ByteArray} {L : Nat} {r : Option FieldType} {hh : List (Nat × Nat × Nat × Nat)} (h : Cond.codeWith y b L r hh ∈ lw_all) : GoodIn lw_all (wsW_ y b L r hh) := by
  intro w hw
  rcases List.mem_cons.mp hw with e | e
  · rw [e]
    exact lw_self _ h
  · exact lw_self _ e
/-- any list of words by their places (lw_in), good -/
theorem lw_good {ws : List Cond} (h : ∀ w ∈ ws, w ∈ lw_all) : GoodIn lw_all ws := fun w hw => lw_self w (h w hw)
/-- what a call of a method with handlers asks: vx_cwVW n hts (lw_VW ..), vx_cwSW n hts (lw_SW ..) -/
theorem lw_VW {own : String} {idx : Nat} {C : String} {y : MethodName} {b : ByteArray} {L : Nat} {r : Option FieldType} {hh : List (Nat × Nat × Nat × Nat)} (h1 : Cond.methodLink own idx y ∈ lw_all) (h2 : Cond.instanceMethod y ∈ lw_all) (h3 : Cond.selects C y y ∈ lw_all) (h4 : Cond.initialized C ∈ lw_all) (h5 : Cond.codeWith y b L r hh ∈ lw_all) : GoodIn lw_all (wsV own idx C y (wsW_ y b L r hh)) := by
  refine lw_app ?_ (lw_methW h5)
  intro w hw
  simp only [List.mem_cons, List.not_mem_nil, or_false] at hw
  rcases hw with e | e | e | e
  · rw [e]; exact h1
  · rw [e]; exact h2
  · rw [e]; exact h3
  · rw [e]; exact h4
theorem lw_SW {own : String} {idx : Nat} {y : MethodName} {b : ByteArray} {L : Nat} {r : Option FieldType} {hh : List (Nat × Nat × Nat × Nat)} (h1 : Cond.methodLink own idx y ∈ lw_all) (h2 : Cond.static y ∈ lw_all) (h3 : Cond.initialized y.cls ∈ lw_all) (h4 : Cond.codeWith y b L r hh ∈ lw_all) : GoodIn lw_all (va_wsS own idx y (wsW_ y b L r hh)) := by
  refine lw_app ?_ (lw_methW h4)
  intro w hw
  simp only [List.mem_cons, List.not_mem_nil, or_false] at hw
  rcases hw with e | e | e
  · rw [e]; exact h1
  · rw [e]; exact h2
  · rw [e]; exact h3
/-- a word by its place in its run of the tables -/
theorem lw_at {r : List Cond} (hr : ∀ w ∈ r, w ∈ lw_tbl) {w : Cond} (i : Nat) (h : r[i]? = some w) : w ∈ lw_tbl := hr w (List.mem_of_getElem? h)
theorem lw_g {w : Cond} (h : w ∈ lw_tbl) (g : goodWord w = true) : w ∈ lw_all := List.mem_filter.mpr ⟨h, g⟩
theorem lw_ms : ∀ w ∈ k2_sels lw_privs, w ∈ lw_tbl := fun w h => show w ∈ k2_sels lw_privs ++ tables_1 from List.mem_append_left _ h
theorem lw_m1 : ∀ w ∈ tables_1_1, w ∈ lw_tbl := fun w h => show w ∈ k2_sels lw_privs ++ tables_1 from List.mem_append_right (k2_sels lw_privs) (show w ∈ tables_1 from List.mem_append_left _ h)
theorem lw_m2 : ∀ w ∈ tables_1_2, w ∈ lw_tbl := fun w h => show w ∈ k2_sels lw_privs ++ tables_1 from List.mem_append_right (k2_sels lw_privs) (show w ∈ tables_1 from List.mem_append_right _ (List.mem_append_left _ h))
theorem lw_m3 : ∀ w ∈ tables_1_3, w ∈ lw_tbl := fun w h => show w ∈ k2_sels lw_privs ++ tables_1 from List.mem_append_right (k2_sels lw_privs) (show w ∈ tables_1 from List.mem_append_right _ (List.mem_append_right _ (List.mem_append_left _ h)))
theorem lw_m4 : ∀ w ∈ tables_1_4, w ∈ lw_tbl := fun w h => show w ∈ k2_sels lw_privs ++ tables_1 from List.mem_append_right (k2_sels lw_privs) (show w ∈ tables_1 from List.mem_append_right _ (List.mem_append_right _ (List.mem_append_right _ (List.mem_append_left _ h))))
theorem lw_m5 : ∀ w ∈ tables_1_5, w ∈ lw_tbl := fun w h => show w ∈ k2_sels lw_privs ++ tables_1 from List.mem_append_right (k2_sels lw_privs) (show w ∈ tables_1 from List.mem_append_right _ (List.mem_append_right _ (List.mem_append_right _ (List.mem_append_right _ (List.mem_append_left _ h)))))
theorem lw_m6 : ∀ w ∈ tables_1_6, w ∈ lw_tbl := fun w h => show w ∈ k2_sels lw_privs ++ tables_1 from List.mem_append_right (k2_sels lw_privs) (show w ∈ tables_1 from List.mem_append_right _ (List.mem_append_right _ (List.mem_append_right _ (List.mem_append_right _ (List.mem_append_right _ (List.mem_append_left _ h))))))
theorem lw_m7 : ∀ w ∈ tables_1_7, w ∈ lw_tbl := fun w h => show w ∈ k2_sels lw_privs ++ tables_1 from List.mem_append_right (k2_sels lw_privs) (show w ∈ tables_1 from List.mem_append_right _ (List.mem_append_right _ (List.mem_append_right _ (List.mem_append_right _ (List.mem_append_right _ (List.mem_append_right _ h))))))
theorem qs0 : (Cond.selects "CallRounds" ⟨"CallRounds", "noPerson", "(I)Z"⟩ ⟨"CallRounds", "noPerson", "(I)Z"⟩) ∈ lw_all := lw_g (lw_at lw_ms 0 rfl) rfl
theorem qs1 : (Cond.selects "CallRounds" ⟨"CallRounds", "secretsNow", "()I"⟩ ⟨"CallRounds", "secretsNow", "()I"⟩) ∈ lw_all := lw_g (lw_at lw_ms 1 rfl) rfl
theorem qs2 : (Cond.selects "CallRounds" ⟨"CallRounds", "atFirst", "()I"⟩ ⟨"CallRounds", "atFirst", "()I"⟩) ∈ lw_all := lw_g (lw_at lw_ms 2 rfl) rfl
theorem qs3 : (Cond.selects "CallRounds" ⟨"CallRounds", "numbersOf", "(II)I"⟩ ⟨"CallRounds", "numbersOf", "(II)I"⟩) ∈ lw_all := lw_g (lw_at lw_ms 3 rfl) rfl
theorem qs4 : (Cond.selects "CallRounds" ⟨"CallRounds", "tokensNow", "()I"⟩ ⟨"CallRounds", "tokensNow", "()I"⟩) ∈ lw_all := lw_g (lw_at lw_ms 4 rfl) rfl
theorem qs5 : (Cond.selects "CallRounds" ⟨"CallRounds", "all", "()I"⟩ ⟨"CallRounds", "all", "()I"⟩) ∈ lw_all := lw_g (lw_at lw_ms 5 rfl) rfl
theorem qs6 : (Cond.selects "java/util/ArrayList" ⟨"java/util/ArrayList", "add", "(Ljava/lang/Object;[Ljava/lang/Object;I)V"⟩ ⟨"java/util/ArrayList", "add", "(Ljava/lang/Object;[Ljava/lang/Object;I)V"⟩) ∈ lw_all := lw_g (lw_at lw_ms 6 rfl) rfl
theorem qs7 : (Cond.selects "java/util/ArrayList" ⟨"java/util/ArrayList", "grow", "()[Ljava/lang/Object;"⟩ ⟨"java/util/ArrayList", "grow", "()[Ljava/lang/Object;"⟩) ∈ lw_all := lw_g (lw_at lw_ms 7 rfl) rfl
theorem qs8 : (Cond.selects "java/util/ArrayList" ⟨"java/util/ArrayList", "grow", "(I)[Ljava/lang/Object;"⟩ ⟨"java/util/ArrayList", "grow", "(I)[Ljava/lang/Object;"⟩) ∈ lw_all := lw_g (lw_at lw_ms 8 rfl) rfl
theorem qs9 : (Cond.selects "java/util/ArrayList" ⟨"java/util/ArrayList", "fastRemove", "([Ljava/lang/Object;I)V"⟩ ⟨"java/util/ArrayList", "fastRemove", "([Ljava/lang/Object;I)V"⟩) ∈ lw_all := lw_g (lw_at lw_ms 9 rfl) rfl
theorem qs10 : (Cond.selects "CallRounds" ⟨"CallRounds", "mayRing", "(IIIII)Z"⟩ ⟨"CallRounds", "mayRing", "(IIIII)Z"⟩) ∈ lw_all := lw_g (lw_at lw_ms 10 rfl) rfl
theorem qs11 : (Cond.selects "CallRounds" ⟨"CallRounds", "layNow", "(I)I"⟩ ⟨"CallRounds", "layNow", "(I)I"⟩) ∈ lw_all := lw_g (lw_at lw_ms 11 rfl) rfl
theorem qs12 : (Cond.selects "CallRounds" ⟨"CallRounds", "lay", "(III)I"⟩ ⟨"CallRounds", "lay", "(III)I"⟩) ∈ lw_all := lw_g (lw_at lw_ms 12 rfl) rfl
theorem qs13 : (Cond.selects "CallRounds" ⟨"CallRounds", "areExperts", "(I)Z"⟩ ⟨"CallRounds", "areExperts", "(I)Z"⟩) ∈ lw_all := lw_g (lw_at lw_ms 13 rfl) rfl
theorem qs14 : (Cond.selects "CallRounds" ⟨"CallRounds", "verdictAt", "(I)I"⟩ ⟨"CallRounds", "verdictAt", "(I)I"⟩) ∈ lw_all := lw_g (lw_at lw_ms 14 rfl) rfl
theorem qs15 : (Cond.selects "CallRounds" ⟨"CallRounds", "layKnown", "(I)V"⟩ ⟨"CallRounds", "layKnown", "(I)V"⟩) ∈ lw_all := lw_g (lw_at lw_ms 15 rfl) rfl
theorem qs16 : (Cond.selects "CallRounds" ⟨"CallRounds", "layAlike", "(III)V"⟩ ⟨"CallRounds", "layAlike", "(III)V"⟩) ∈ lw_all := lw_g (lw_at lw_ms 16 rfl) rfl
theorem qs17 : (Cond.selects "CallRounds" ⟨"CallRounds", "seesSame", "(ILCallRounds$Ring;III)Z"⟩ ⟨"CallRounds", "seesSame", "(ILCallRounds$Ring;III)Z"⟩) ∈ lw_all := lw_g (lw_at lw_ms 17 rfl) rfl
theorem qs18 : (Cond.selects "CallRounds" ⟨"CallRounds", "isJoined", "()Z"⟩ ⟨"CallRounds", "isJoined", "()Z"⟩) ∈ lw_all := lw_g (lw_at lw_ms 18 rfl) rfl
theorem qs19 : (Cond.selects "CallRounds" ⟨"CallRounds", "cameTo", "(IZ)I"⟩ ⟨"CallRounds", "cameTo", "(IZ)I"⟩) ∈ lw_all := lw_g (lw_at lw_ms 19 rfl) rfl
theorem qs20 : (Cond.selects "CallRounds" ⟨"CallRounds", "verdictFirst", "(I)I"⟩ ⟨"CallRounds", "verdictFirst", "(I)I"⟩) ∈ lw_all := lw_g (lw_at lw_ms 20 rfl) rfl
theorem qs21 : (Cond.selects "CallRounds" ⟨"CallRounds", "layNet", "(II)V"⟩ ⟨"CallRounds", "layNet", "(II)V"⟩) ∈ lw_all := lw_g (lw_at lw_ms 21 rfl) rfl
theorem qs22 : (Cond.selects "CallRounds" ⟨"CallRounds", "isWithin", "(IIII)Z"⟩ ⟨"CallRounds", "isWithin", "(IIII)Z"⟩) ∈ lw_all := lw_g (lw_at lw_ms 22 rfl) rfl
theorem qs23 : (Cond.selects "java/lang/NullPointerException" ⟨"java/lang/NullPointerException", "getExtendedNPEMessage", "()Ljava/lang/String;"⟩ ⟨"java/lang/NullPointerException", "getExtendedNPEMessage", "()Ljava/lang/String;"⟩) ∈ lw_all := lw_g (lw_at lw_ms 23 rfl) rfl
theorem qs24 : (Cond.selects "java/lang/Throwable" ⟨"java/lang/Throwable", "fillInStackTrace", "(I)Ljava/lang/Throwable;"⟩ ⟨"java/lang/Throwable", "fillInStackTrace", "(I)Ljava/lang/Throwable;"⟩) ∈ lw_all := lw_g (lw_at lw_ms 24 rfl) rfl
theorem qs25 : (Cond.selects "CallRounds" ⟨"CallRounds", "refused", "(I)I"⟩ ⟨"CallRounds", "refused", "(I)I"⟩) ∈ lw_all := lw_g (lw_at lw_ms 25 rfl) rfl
theorem qs26 : (Cond.selects "CallRounds" ⟨"CallRounds", "fails", "(I)I"⟩ ⟨"CallRounds", "fails", "(I)I"⟩) ∈ lw_all := lw_g (lw_at lw_ms 26 rfl) rfl
theorem qs27 : (Cond.selects "CallRounds" ⟨"CallRounds", "rowIn", "(I)Ljava/lang/Object;"⟩ ⟨"CallRounds", "rowIn", "(I)Ljava/lang/Object;"⟩) ∈ lw_all := lw_g (lw_at lw_ms 27 rfl) rfl
theorem qs28 : (Cond.selects "CallRounds" ⟨"CallRounds", "failsLong", "(I)J"⟩ ⟨"CallRounds", "failsLong", "(I)J"⟩) ∈ lw_all := lw_g (lw_at lw_ms 28 rfl) rfl
theorem qs29 : (Cond.selects "CallRounds" ⟨"CallRounds", "newNet", "([I)I"⟩ ⟨"CallRounds", "newNet", "([I)I"⟩) ∈ lw_all := lw_g (lw_at lw_ms 29 rfl) rfl
theorem qs30 : (Cond.selects "CallRounds$Reader" ⟨"CallRounds$Reader", "readsPerson", "()Z"⟩ ⟨"CallRounds$Reader", "readsPerson", "()Z"⟩) ∈ lw_all := lw_g (lw_at lw_ms 30 rfl) rfl
theorem qs31 : (Cond.selects "CallRounds$Reader" ⟨"CallRounds$Reader", "take", "(I)Z"⟩ ⟨"CallRounds$Reader", "take", "(I)Z"⟩) ∈ lw_all := lw_g (lw_at lw_ms 31 rfl) rfl
theorem qs32 : (Cond.selects "CallRounds$Reader" ⟨"CallRounds$Reader", "areThere", "()Z"⟩ ⟨"CallRounds$Reader", "areThere", "()Z"⟩) ∈ lw_all := lw_g (lw_at lw_ms 32 rfl) rfl
theorem qs33 : (Cond.selects "CallRounds" ⟨"CallRounds", "noRing", "(I)Z"⟩ ⟨"CallRounds", "noRing", "(I)Z"⟩) ∈ lw_all := lw_g (lw_at lw_ms 33 rfl) rfl
theorem qs34 : (Cond.selects "CallRoundsModel" ⟨"CallRoundsModel", "fails", "(I)I"⟩ ⟨"CallRoundsModel", "fails", "(I)I"⟩) ∈ lw_all := lw_g (lw_at lw_ms 34 rfl) rfl
theorem qs35 : (Cond.selects "CallRoundsModel" ⟨"CallRoundsModel", "readAll", "(II)I"⟩ ⟨"CallRoundsModel", "readAll", "(II)I"⟩) ∈ lw_all := lw_g (lw_at lw_ms 35 rfl) rfl
theorem qs36 : (Cond.selects "CallRoundsModel" ⟨"CallRoundsModel", "isPerson", "(I)Z"⟩ ⟨"CallRoundsModel", "isPerson", "(I)Z"⟩) ∈ lw_all := lw_g (lw_at lw_ms 36 rfl) rfl
theorem qs37 : (Cond.selects "CallRoundsModel" ⟨"CallRoundsModel", "stateAt", "(I)I"⟩ ⟨"CallRoundsModel", "stateAt", "(I)I"⟩) ∈ lw_all := lw_g (lw_at lw_ms 37 rfl) rfl
theorem qs38 : (Cond.selects "CallRoundsModel" ⟨"CallRoundsModel", "startOf", "(I)I"⟩ ⟨"CallRoundsModel", "startOf", "(I)I"⟩) ∈ lw_all := lw_g (lw_at lw_ms 38 rfl) rfl
theorem qs39 : (Cond.selects "CallRoundsModel" ⟨"CallRoundsModel", "tokensNow", "(I)I"⟩ ⟨"CallRoundsModel", "tokensNow", "(I)I"⟩) ∈ lw_all := lw_g (lw_at lw_ms 39 rfl) rfl
theorem qs40 : (Cond.selects "CallRoundsModel" ⟨"CallRoundsModel", "isCall", "(I)Z"⟩ ⟨"CallRoundsModel", "isCall", "(I)Z"⟩) ∈ lw_all := lw_g (lw_at lw_ms 40 rfl) rfl
theorem qs41 : (Cond.selects "CallRoundsModel" ⟨"CallRoundsModel", "kindOf", "(I)I"⟩ ⟨"CallRoundsModel", "kindOf", "(I)I"⟩) ∈ lw_all := lw_g (lw_at lw_ms 41 rfl) rfl
theorem qs42 : (Cond.selects "CallRoundsModel" ⟨"CallRoundsModel", "learnt", "(II)I"⟩ ⟨"CallRoundsModel", "learnt", "(II)I"⟩) ∈ lw_all := lw_g (lw_at lw_ms 42 rfl) rfl
theorem qs43 : (Cond.selects "CallRoundsModel" ⟨"CallRoundsModel", "layNow", "(I)I"⟩ ⟨"CallRoundsModel", "layNow", "(I)I"⟩) ∈ lw_all := lw_g (lw_at lw_ms 43 rfl) rfl
theorem qs44 : (Cond.selects "CallRoundsModel" ⟨"CallRoundsModel", "lookAt", "([III)V"⟩ ⟨"CallRoundsModel", "lookAt", "([III)V"⟩) ∈ lw_all := lw_g (lw_at lw_ms 44 rfl) rfl
theorem qs45 : (Cond.selects "CallRoundsModel" ⟨"CallRoundsModel", "lay", "(II)I"⟩ ⟨"CallRoundsModel", "lay", "(II)I"⟩) ∈ lw_all := lw_g (lw_at lw_ms 45 rfl) rfl
theorem qs46 : (Cond.selects "CallRoundsModel" ⟨"CallRoundsModel", "open", "(III)V"⟩ ⟨"CallRoundsModel", "open", "(III)V"⟩) ∈ lw_all := lw_g (lw_at lw_ms 46 rfl) rfl
theorem qs47 : (Cond.selects "CallRoundsModel" ⟨"CallRoundsModel", "close", "(II)V"⟩ ⟨"CallRoundsModel", "close", "(II)V"⟩) ∈ lw_all := lw_g (lw_at lw_ms 47 rfl) rfl
theorem qs48 : (Cond.selects "CallRoundsModel" ⟨"CallRoundsModel", "areExperts", "(II)Z"⟩ ⟨"CallRoundsModel", "areExperts", "(II)Z"⟩) ∈ lw_all := lw_g (lw_at lw_ms 48 rfl) rfl
theorem qs49 : (Cond.selects "CallRoundsModel" ⟨"CallRoundsModel", "add", "(II)V"⟩ ⟨"CallRoundsModel", "add", "(II)V"⟩) ∈ lw_all := lw_g (lw_at lw_ms 49 rfl) rfl
theorem qs50 : (Cond.selects "CallRoundsModel" ⟨"CallRoundsModel", "verdictAt", "(I)I"⟩ ⟨"CallRoundsModel", "verdictAt", "(I)I"⟩) ∈ lw_all := lw_g (lw_at lw_ms 50 rfl) rfl
theorem qs51 : (Cond.selects "CallRoundsModel" ⟨"CallRoundsModel", "layAlike", "(I)V"⟩ ⟨"CallRoundsModel", "layAlike", "(I)V"⟩) ∈ lw_all := lw_g (lw_at lw_ms 51 rfl) rfl
theorem qs52 : (Cond.selects "CallRoundsModel" ⟨"CallRoundsModel", "layRow", "(I)I"⟩ ⟨"CallRoundsModel", "layRow", "(I)I"⟩) ∈ lw_all := lw_g (lw_at lw_ms 52 rfl) rfl
theorem qs53 : (Cond.selects "CallRoundsModel" ⟨"CallRoundsModel", "seesAlike", "(I)Z"⟩ ⟨"CallRoundsModel", "seesAlike", "(I)Z"⟩) ∈ lw_all := lw_g (lw_at lw_ms 53 rfl) rfl
theorem qs54 : (Cond.selects "CallRoundsModel" ⟨"CallRoundsModel", "layOther", "(II)V"⟩ ⟨"CallRoundsModel", "layOther", "(II)V"⟩) ∈ lw_all := lw_g (lw_at lw_ms 54 rfl) rfl
theorem qs55 : (Cond.selects "CallRoundsModel" ⟨"CallRoundsModel", "verdictFrom", "([III)I"⟩ ⟨"CallRoundsModel", "verdictFrom", "([III)I"⟩) ∈ lw_all := lw_g (lw_at lw_ms 55 rfl) rfl
theorem qs56 : (Cond.selects "CallRoundsModel" ⟨"CallRoundsModel", "layNet", "(II)V"⟩ ⟨"CallRoundsModel", "layNet", "(II)V"⟩) ∈ lw_all := lw_g (lw_at lw_ms 56 rfl) rfl
theorem qs57 : (Cond.selects "CallRoundsModel" ⟨"CallRoundsModel", "lost", "(I)J"⟩ ⟨"CallRoundsModel", "lost", "(I)J"⟩) ∈ lw_all := lw_g (lw_at lw_ms 57 rfl) rfl
theorem qs58 : (Cond.selects "CallRoundsModel" ⟨"CallRoundsModel", "begins", "(I)V"⟩ ⟨"CallRoundsModel", "begins", "(I)V"⟩) ∈ lw_all := lw_g (lw_at lw_ms 58 rfl) rfl
