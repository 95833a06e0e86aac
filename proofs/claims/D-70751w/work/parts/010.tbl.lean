-- ===== PART A: goes FIRST, ahead of the names: the tables' words, and 'selects' of the private methods out of them =====
/-- a private method of a class that the tables say can be made, by its rows of tables_1 -/
def lw_okq (q : MethodName × Nat) : Prop := (q.1.cls ≠ "java/lang/invoke/MethodHandle" ∧ q.1.cls ≠ "java/lang/invoke/VarHandle") ∧ Cond.instantiable q.1.cls q.2 ∈ tables_1 ∧ Cond.privateMethod q.1 ∈ tables_1 ∧ Cond.instanceMethod q.1 ∈ tables_1
set_option maxRecDepth 100000
theorem lw_t1 {w : Cond} (h : w ∈ tables_1_1) : w ∈ tables_1 := List.mem_append_left _ h
theorem lw_t2 {w : Cond} (h : w ∈ tables_1_2) : w ∈ tables_1 := List.mem_append_right _ (List.mem_append_left _ h)
theorem lw_t3 {w : Cond} (h : w ∈ tables_1_3) : w ∈ tables_1 := List.mem_append_right _ (List.mem_append_right _ (List.mem_append_left _ h))
theorem lw_t4 {w : Cond} (h : w ∈ tables_1_4) : w ∈ tables_1 := List.mem_append_right _ (List.mem_append_right _ (List.mem_append_right _ (List.mem_append_left _ h)))
theorem lw_t5 {w : Cond} (h : w ∈ tables_1_5) : w ∈ tables_1 := List.mem_append_right _ (List.mem_append_right _ (List.mem_append_right _ (List.mem_append_right _ (List.mem_append_left _ h))))
theorem lw_t6 {w : Cond} (h : w ∈ tables_1_6) : w ∈ tables_1 := List.mem_append_right _ (List.mem_append_right _ (List.mem_append_right _ (List.mem_append_right _ (List.mem_append_right _ (List.mem_append_left _ h)))))
theorem lw_t7 {w : Cond} (h : w ∈ tables_1_7) : w ∈ tables_1 := List.mem_append_right _ (List.mem_append_right _ (List.mem_append_right _ (List.mem_append_right _ (List.mem_append_right _ (List.mem_append_right _ (List.mem_append_left _ h))))))
theorem lw_t8 {w : Cond} (h : w ∈ tables_1_8) : w ∈ tables_1 := List.mem_append_right _ (List.mem_append_right _ (List.mem_append_right _ (List.mem_append_right _ (List.mem_append_right _ (List.mem_append_right _ (List.mem_append_right _ h))))))
theorem lw_p0 : lw_okq (⟨"java/lang/NullPointerException", "getExtendedNPEMessage", "()Ljava/lang/String;"⟩, 8) := ⟨⟨by decide +kernel, by decide +kernel⟩, lw_t2 (List.mem_of_getElem? (i := 24) rfl), lw_t2 (List.mem_of_getElem? (i := 22) rfl), lw_t2 (List.mem_of_getElem? (i := 23) rfl)⟩
theorem lw_p1 : lw_okq (⟨"java/lang/Throwable", "fillInStackTrace", "(I)Ljava/lang/Throwable;"⟩, 6) := ⟨⟨by decide +kernel, by decide +kernel⟩, lw_t2 (List.mem_of_getElem? (i := 36) rfl), lw_t2 (List.mem_of_getElem? (i := 34) rfl), lw_t2 (List.mem_of_getElem? (i := 35) rfl)⟩
theorem lw_p2 : lw_okq (⟨"MoodFare", "well", "(I)I"⟩, 14) := ⟨⟨by decide +kernel, by decide +kernel⟩, lw_t1 (List.mem_of_getElem? (i := 45) rfl), lw_t2 (List.mem_of_getElem? (i := 91) rfl), lw_t2 (List.mem_of_getElem? (i := 92) rfl)⟩
theorem lw_p3 : lw_okq (⟨"MoodFare", "found", "(I)I"⟩, 14) := ⟨⟨by decide +kernel, by decide +kernel⟩, lw_t1 (List.mem_of_getElem? (i := 45) rfl), lw_t2 (List.mem_of_getElem? (i := 95) rfl), lw_t2 (List.mem_of_getElem? (i := 96) rfl)⟩
theorem lw_p4 : lw_okq (⟨"MoodFare$Shelf", "put", "(II)I"⟩, 1) := ⟨⟨by decide +kernel, by decide +kernel⟩, lw_t1 (List.mem_of_getElem? (i := 57) rfl), lw_t2 (List.mem_of_getElem? (i := 149) rfl), lw_t2 (List.mem_of_getElem? (i := 150) rfl)⟩
theorem lw_p5 : lw_okq (⟨"MoodFare$Shelf", "at", "(I)I"⟩, 1) := ⟨⟨by decide +kernel, by decide +kernel⟩, lw_t1 (List.mem_of_getElem? (i := 57) rfl), lw_t2 (List.mem_of_getElem? (i := 156) rfl), lw_t2 (List.mem_of_getElem? (i := 157) rfl)⟩
theorem lw_p6 : lw_okq (⟨"MoodFare$Shelf", "many", "()I"⟩, 1) := ⟨⟨by decide +kernel, by decide +kernel⟩, lw_t1 (List.mem_of_getElem? (i := 57) rfl), lw_t2 (List.mem_of_getElem? (i := 186) rfl), lw_t2 (List.mem_of_getElem? (i := 187) rfl)⟩
theorem lw_p7 : lw_okq (⟨"MoodFare$Reader", "next", "()V"⟩, 7) := ⟨⟨by decide +kernel, by decide +kernel⟩, lw_t2 (List.mem_of_getElem? (i := 201) rfl), lw_t2 (List.mem_of_getElem? (i := 236) rfl), lw_t2 (List.mem_of_getElem? (i := 237) rfl)⟩
theorem lw_p8 : lw_okq (⟨"MoodFare$Reader", "look", "()I"⟩, 7) := ⟨⟨by decide +kernel, by decide +kernel⟩, lw_t2 (List.mem_of_getElem? (i := 201) rfl), lw_t3 (List.mem_of_getElem? (i := 0) rfl), lw_t3 (List.mem_of_getElem? (i := 1) rfl)⟩
theorem lw_p9 : lw_okq (⟨"MoodFare$Reader", "is", "(II)Z"⟩, 7) := ⟨⟨by decide +kernel, by decide +kernel⟩, lw_t2 (List.mem_of_getElem? (i := 201) rfl), lw_t3 (List.mem_of_getElem? (i := 10) rfl), lw_t3 (List.mem_of_getElem? (i := 11) rfl)⟩
theorem lw_p10 : lw_okq (⟨"MoodFare$Reader", "must", "(ZI)V"⟩, 7) := ⟨⟨by decide +kernel, by decide +kernel⟩, lw_t2 (List.mem_of_getElem? (i := 201) rfl), lw_t3 (List.mem_of_getElem? (i := 14) rfl), lw_t3 (List.mem_of_getElem? (i := 15) rfl)⟩
theorem lw_p11 : lw_okq (⟨"MoodFare$Reader", "figure", "(II)I"⟩, 7) := ⟨⟨by decide +kernel, by decide +kernel⟩, lw_t2 (List.mem_of_getElem? (i := 201) rfl), lw_t3 (List.mem_of_getElem? (i := 46) rfl), lw_t3 (List.mem_of_getElem? (i := 47) rfl)⟩
theorem lw_p12 : lw_okq (⟨"MoodFare$Reader", "sign", "(I)V"⟩, 7) := ⟨⟨by decide +kernel, by decide +kernel⟩, lw_t2 (List.mem_of_getElem? (i := 201) rfl), lw_t3 (List.mem_of_getElem? (i := 50) rfl), lw_t3 (List.mem_of_getElem? (i := 51) rfl)⟩
theorem lw_p13 : lw_okq (⟨"MoodFare$Reader", "corner", "()V"⟩, 7) := ⟨⟨by decide +kernel, by decide +kernel⟩, lw_t2 (List.mem_of_getElem? (i := 201) rfl), lw_t3 (List.mem_of_getElem? (i := 141) rfl), lw_t3 (List.mem_of_getElem? (i := 142) rfl)⟩
theorem lw_p14 : lw_okq (⟨"java/util/ArrayList", "add", "(Ljava/lang/Object;[Ljava/lang/Object;I)V"⟩, 3) := ⟨⟨by decide +kernel, by decide +kernel⟩, lw_t1 (List.mem_of_getElem? (i := 74) rfl), lw_t3 (List.mem_of_getElem? (i := 223) rfl), lw_t3 (List.mem_of_getElem? (i := 224) rfl)⟩
theorem lw_p15 : lw_okq (⟨"java/util/ArrayList", "grow", "()[Ljava/lang/Object;"⟩, 3) := ⟨⟨by decide +kernel, by decide +kernel⟩, lw_t1 (List.mem_of_getElem? (i := 74) rfl), lw_t3 (List.mem_of_getElem? (i := 227) rfl), lw_t3 (List.mem_of_getElem? (i := 228) rfl)⟩
def lw_privs_1 : List (MethodName × Nat) := [(⟨"java/lang/NullPointerException", "getExtendedNPEMessage", "()Ljava/lang/String;"⟩, 8), (⟨"java/lang/Throwable", "fillInStackTrace", "(I)Ljava/lang/Throwable;"⟩, 6), (⟨"MoodFare", "well", "(I)I"⟩, 14), (⟨"MoodFare", "found", "(I)I"⟩, 14), (⟨"MoodFare$Shelf", "put", "(II)I"⟩, 1), (⟨"MoodFare$Shelf", "at", "(I)I"⟩, 1), (⟨"MoodFare$Shelf", "many", "()I"⟩, 1), (⟨"MoodFare$Reader", "next", "()V"⟩, 7), (⟨"MoodFare$Reader", "look", "()I"⟩, 7), (⟨"MoodFare$Reader", "is", "(II)Z"⟩, 7), (⟨"MoodFare$Reader", "must", "(ZI)V"⟩, 7), (⟨"MoodFare$Reader", "figure", "(II)I"⟩, 7), (⟨"MoodFare$Reader", "sign", "(I)V"⟩, 7), (⟨"MoodFare$Reader", "corner", "()V"⟩, 7), (⟨"java/util/ArrayList", "add", "(Ljava/lang/Object;[Ljava/lang/Object;I)V"⟩, 3), (⟨"java/util/ArrayList", "grow", "()[Ljava/lang/Object;"⟩, 3)]
theorem lw_r1 : ∀ q ∈ lw_privs_1, lw_okq q := List.forall_mem_cons.mpr ⟨lw_p0, List.forall_mem_cons.mpr ⟨lw_p1, List.forall_mem_cons.mpr ⟨lw_p2, List.forall_mem_cons.mpr ⟨lw_p3, List.forall_mem_cons.mpr ⟨lw_p4, List.forall_mem_cons.mpr ⟨lw_p5, List.forall_mem_cons.mpr ⟨lw_p6, List.forall_mem_cons.mpr ⟨lw_p7, List.forall_mem_cons.mpr ⟨lw_p8, List.forall_mem_cons.mpr ⟨lw_p9, List.forall_mem_cons.mpr ⟨lw_p10, List.forall_mem_cons.mpr ⟨lw_p11, List.forall_mem_cons.mpr ⟨lw_p12, List.forall_mem_cons.mpr ⟨lw_p13, List.forall_mem_cons.mpr ⟨lw_p14, List.forall_mem_cons.mpr ⟨lw_p15, fun _ h => absurd h List.not_mem_nil⟩⟩⟩⟩⟩⟩⟩⟩⟩⟩⟩⟩⟩⟩⟩⟩
theorem lw_p16 : lw_okq (⟨"java/util/ArrayList", "grow", "(I)[Ljava/lang/Object;"⟩, 3) := ⟨⟨by decide +kernel, by decide +kernel⟩, lw_t1 (List.mem_of_getElem? (i := 74) rfl), lw_t3 (List.mem_of_getElem? (i := 231) rfl), lw_t3 (List.mem_of_getElem? (i := 232) rfl)⟩
theorem lw_p17 : lw_okq (⟨"MoodFare$Reader", "street", "()V"⟩, 7) := ⟨⟨by decide +kernel, by decide +kernel⟩, lw_t2 (List.mem_of_getElem? (i := 201) rfl), lw_t4 (List.mem_of_getElem? (i := 46) rfl), lw_t4 (List.mem_of_getElem? (i := 47) rfl)⟩
theorem lw_p18 : lw_okq (⟨"MoodFare", "isStreet", "(I)Z"⟩, 14) := ⟨⟨by decide +kernel, by decide +kernel⟩, lw_t1 (List.mem_of_getElem? (i := 45) rfl), lw_t4 (List.mem_of_getElem? (i := 103) rfl), lw_t4 (List.mem_of_getElem? (i := 104) rfl)⟩
theorem lw_p19 : lw_okq (⟨"MoodFare", "keep", "()V"⟩, 14) := ⟨⟨by decide +kernel, by decide +kernel⟩, lw_t1 (List.mem_of_getElem? (i := 45) rfl), lw_t4 (List.mem_of_getElem? (i := 116) rfl), lw_t4 (List.mem_of_getElem? (i := 117) rfl)⟩
theorem lw_p20 : lw_okq (⟨"MoodFare", "isCorner", "(I)Z"⟩, 14) := ⟨⟨by decide +kernel, by decide +kernel⟩, lw_t1 (List.mem_of_getElem? (i := 45) rfl), lw_t4 (List.mem_of_getElem? (i := 172) rfl), lw_t4 (List.mem_of_getElem? (i := 173) rfl)⟩
theorem lw_p21 : lw_okq (⟨"MoodFare", "isThere", "()Z"⟩, 14) := ⟨⟨by decide +kernel, by decide +kernel⟩, lw_t1 (List.mem_of_getElem? (i := 45) rfl), lw_t4 (List.mem_of_getElem? (i := 182) rfl), lw_t4 (List.mem_of_getElem? (i := 183) rfl)⟩
theorem lw_p22 : lw_okq (⟨"MoodFare", "streetsAt", "([II)I"⟩, 14) := ⟨⟨by decide +kernel, by decide +kernel⟩, lw_t1 (List.mem_of_getElem? (i := 45) rfl), lw_t4 (List.mem_of_getElem? (i := 206) rfl), lw_t4 (List.mem_of_getElem? (i := 207) rfl)⟩
theorem lw_p23 : lw_okq (⟨"MoodFare", "asNow", "()LMoodFare$Town;"⟩, 14) := ⟨⟨by decide +kernel, by decide +kernel⟩, lw_t1 (List.mem_of_getElem? (i := 45) rfl), lw_t4 (List.mem_of_getElem? (i := 230) rfl), lw_t4 (List.mem_of_getElem? (i := 231) rfl)⟩
theorem lw_p24 : lw_okq (⟨"MoodFare", "cheapestTo", "(I)LMoodFare$Cheapest;"⟩, 14) := ⟨⟨by decide +kernel, by decide +kernel⟩, lw_t1 (List.mem_of_getElem? (i := 45) rfl), lw_t4 (List.mem_of_getElem? (i := 234) rfl), lw_t4 (List.mem_of_getElem? (i := 235) rfl)⟩
theorem lw_p25 : lw_okq (⟨"MoodFare", "rowsOf", "(IIILMoodFare$Worth;)V"⟩, 14) := ⟨⟨by decide +kernel, by decide +kernel⟩, lw_t1 (List.mem_of_getElem? (i := 45) rfl), lw_t5 (List.mem_of_getElem? (i := 17) rfl), lw_t5 (List.mem_of_getElem? (i := 18) rfl)⟩
theorem lw_p26 : lw_okq (⟨"MoodFare", "rider", "(I)LMoodFare$Town;"⟩, 14) := ⟨⟨by decide +kernel, by decide +kernel⟩, lw_t1 (List.mem_of_getElem? (i := 45) rfl), lw_t5 (List.mem_of_getElem? (i := 50) rfl), lw_t5 (List.mem_of_getElem? (i := 51) rfl)⟩
theorem lw_p27 : lw_okq (⟨"MoodFare", "told", "(IIIIILMoodFare$Told;)I"⟩, 14) := ⟨⟨by decide +kernel, by decide +kernel⟩, lw_t1 (List.mem_of_getElem? (i := 45) rfl), lw_t5 (List.mem_of_getElem? (i := 139) rfl), lw_t5 (List.mem_of_getElem? (i := 140) rfl)⟩
theorem lw_p28 : lw_okq (⟨"MoodFare", "items", "(III)[I"⟩, 14) := ⟨⟨by decide +kernel, by decide +kernel⟩, lw_t1 (List.mem_of_getElem? (i := 45) rfl), lw_t5 (List.mem_of_getElem? (i := 143) rfl), lw_t5 (List.mem_of_getElem? (i := 144) rfl)⟩
theorem lw_p29 : lw_okq (⟨"MoodFare", "costsSo", "([I[I)Z"⟩, 14) := ⟨⟨by decide +kernel, by decide +kernel⟩, lw_t1 (List.mem_of_getElem? (i := 45) rfl), lw_t5 (List.mem_of_getElem? (i := 166) rfl), lw_t5 (List.mem_of_getElem? (i := 167) rfl)⟩
theorem lw_p30 : lw_okq (⟨"MoodFareModel", "found", "(I)I"⟩, 32) := ⟨⟨by decide +kernel, by decide +kernel⟩, lw_t6 (List.mem_of_getElem? (i := 203) rfl), lw_t7 (List.mem_of_getElem? (i := 79) rfl), lw_t7 (List.mem_of_getElem? (i := 80) rfl)⟩
theorem lw_p31 : lw_okq (⟨"MoodFareModel", "well", "(I)I"⟩, 32) := ⟨⟨by decide +kernel, by decide +kernel⟩, lw_t6 (List.mem_of_getElem? (i := 203) rfl), lw_t7 (List.mem_of_getElem? (i := 84) rfl), lw_t7 (List.mem_of_getElem? (i := 85) rfl)⟩
def lw_privs_2 : List (MethodName × Nat) := [(⟨"java/util/ArrayList", "grow", "(I)[Ljava/lang/Object;"⟩, 3), (⟨"MoodFare$Reader", "street", "()V"⟩, 7), (⟨"MoodFare", "isStreet", "(I)Z"⟩, 14), (⟨"MoodFare", "keep", "()V"⟩, 14), (⟨"MoodFare", "isCorner", "(I)Z"⟩, 14), (⟨"MoodFare", "isThere", "()Z"⟩, 14), (⟨"MoodFare", "streetsAt", "([II)I"⟩, 14), (⟨"MoodFare", "asNow", "()LMoodFare$Town;"⟩, 14), (⟨"MoodFare", "cheapestTo", "(I)LMoodFare$Cheapest;"⟩, 14), (⟨"MoodFare", "rowsOf", "(IIILMoodFare$Worth;)V"⟩, 14), (⟨"MoodFare", "rider", "(I)LMoodFare$Town;"⟩, 14), (⟨"MoodFare", "told", "(IIIIILMoodFare$Told;)I"⟩, 14), (⟨"MoodFare", "items", "(III)[I"⟩, 14), (⟨"MoodFare", "costsSo", "([I[I)Z"⟩, 14), (⟨"MoodFareModel", "found", "(I)I"⟩, 32), (⟨"MoodFareModel", "well", "(I)I"⟩, 32)]
theorem lw_r2 : ∀ q ∈ lw_privs_2, lw_okq q := List.forall_mem_cons.mpr ⟨lw_p16, List.forall_mem_cons.mpr ⟨lw_p17, List.forall_mem_cons.mpr ⟨lw_p18, List.forall_mem_cons.mpr ⟨lw_p19, List.forall_mem_cons.mpr ⟨lw_p20, List.forall_mem_cons.mpr ⟨lw_p21, List.forall_mem_cons.mpr ⟨lw_p22, List.forall_mem_cons.mpr ⟨lw_p23, List.forall_mem_cons.mpr ⟨lw_p24, List.forall_mem_cons.mpr ⟨lw_p25, List.forall_mem_cons.mpr ⟨lw_p26, List.forall_mem_cons.mpr ⟨lw_p27, List.forall_mem_cons.mpr ⟨lw_p28, List.forall_mem_cons.mpr ⟨lw_p29, List.forall_mem_cons.mpr ⟨lw_p30, List.forall_mem_cons.mpr ⟨lw_p31, fun _ h => absurd h List.not_mem_nil⟩⟩⟩⟩⟩⟩⟩⟩⟩⟩⟩⟩⟩⟩⟩⟩
theorem lw_p32 : lw_okq (⟨"MoodFareModel", "isMissing", "(I)Z"⟩, 32) := ⟨⟨by decide +kernel, by decide +kernel⟩, lw_t6 (List.mem_of_getElem? (i := 203) rfl), lw_t7 (List.mem_of_getElem? (i := 92) rfl), lw_t7 (List.mem_of_getElem? (i := 93) rfl)⟩
theorem lw_p33 : lw_okq (⟨"MoodFareModel", "isPart", "(III)Z"⟩, 32) := ⟨⟨by decide +kernel, by decide +kernel⟩, lw_t6 (List.mem_of_getElem? (i := 203) rfl), lw_t7 (List.mem_of_getElem? (i := 103) rfl), lw_t7 (List.mem_of_getElem? (i := 104) rfl)⟩
theorem lw_p34 : lw_okq (⟨"MoodFareModel", "advances", "()V"⟩, 32) := ⟨⟨by decide +kernel, by decide +kernel⟩, lw_t6 (List.mem_of_getElem? (i := 203) rfl), lw_t7 (List.mem_of_getElem? (i := 120) rfl), lw_t7 (List.mem_of_getElem? (i := 121) rfl)⟩
theorem lw_p35 : lw_okq (⟨"MoodFareModel", "byteAt", "(I)I"⟩, 32) := ⟨⟨by decide +kernel, by decide +kernel⟩, lw_t6 (List.mem_of_getElem? (i := 203) rfl), lw_t7 (List.mem_of_getElem? (i := 124) rfl), lw_t7 (List.mem_of_getElem? (i := 125) rfl)⟩
theorem lw_p36 : lw_okq (⟨"MoodFareModel", "takes", "(ZI)I"⟩, 32) := ⟨⟨by decide +kernel, by decide +kernel⟩, lw_t6 (List.mem_of_getElem? (i := 203) rfl), lw_t7 (List.mem_of_getElem? (i := 128) rfl), lw_t7 (List.mem_of_getElem? (i := 129) rfl)⟩
theorem lw_p37 : lw_okq (⟨"MoodFareModel", "isWell", "()Z"⟩, 32) := ⟨⟨by decide +kernel, by decide +kernel⟩, lw_t6 (List.mem_of_getElem? (i := 203) rfl), lw_t7 (List.mem_of_getElem? (i := 132) rfl), lw_t7 (List.mem_of_getElem? (i := 133) rfl)⟩
theorem lw_p38 : lw_okq (⟨"MoodFareModel", "figure", "(II)I"⟩, 32) := ⟨⟨by decide +kernel, by decide +kernel⟩, lw_t6 (List.mem_of_getElem? (i := 203) rfl), lw_t7 (List.mem_of_getElem? (i := 136) rfl), lw_t7 (List.mem_of_getElem? (i := 137) rfl)⟩
theorem lw_p39 : lw_okq (⟨"MoodFareModel", "follows", "(II)I"⟩, 32) := ⟨⟨by decide +kernel, by decide +kernel⟩, lw_t6 (List.mem_of_getElem? (i := 203) rfl), lw_t7 (List.mem_of_getElem? (i := 140) rfl), lw_t7 (List.mem_of_getElem? (i := 141) rfl)⟩
theorem lw_p40 : lw_okq (⟨"MoodFareModel", "readsCorner", "()V"⟩, 32) := ⟨⟨by decide +kernel, by decide +kernel⟩, lw_t6 (List.mem_of_getElem? (i := 203) rfl), lw_t7 (List.mem_of_getElem? (i := 147) rfl), lw_t7 (List.mem_of_getElem? (i := 148) rfl)⟩
theorem lw_p41 : lw_okq (⟨"MoodFareModel", "readsStreet", "()V"⟩, 32) := ⟨⟨by decide +kernel, by decide +kernel⟩, lw_t6 (List.mem_of_getElem? (i := 203) rfl), lw_t7 (List.mem_of_getElem? (i := 151) rfl), lw_t7 (List.mem_of_getElem? (i := 152) rfl)⟩
theorem lw_p42 : lw_okq (⟨"MoodFareModel", "toFigure", "(I)I"⟩, 32) := ⟨⟨by decide +kernel, by decide +kernel⟩, lw_t6 (List.mem_of_getElem? (i := 203) rfl), lw_t7 (List.mem_of_getElem? (i := 155) rfl), lw_t7 (List.mem_of_getElem? (i := 156) rfl)⟩
theorem lw_p43 : lw_okq (⟨"MoodFareModel", "isStreetTold", "(II)Z"⟩, 32) := ⟨⟨by decide +kernel, by decide +kernel⟩, lw_t6 (List.mem_of_getElem? (i := 203) rfl), lw_t7 (List.mem_of_getElem? (i := 159) rfl), lw_t7 (List.mem_of_getElem? (i := 160) rfl)⟩
theorem lw_p44 : lw_okq (⟨"MoodFareModel", "isStreet", "(I)Z"⟩, 32) := ⟨⟨by decide +kernel, by decide +kernel⟩, lw_t6 (List.mem_of_getElem? (i := 203) rfl), lw_t7 (List.mem_of_getElem? (i := 175) rfl), lw_t7 (List.mem_of_getElem? (i := 176) rfl)⟩
theorem lw_p45 : lw_okq (⟨"MoodFareModel", "notes", "()V"⟩, 32) := ⟨⟨by decide +kernel, by decide +kernel⟩, lw_t6 (List.mem_of_getElem? (i := 203) rfl), lw_t7 (List.mem_of_getElem? (i := 186) rfl), lw_t7 (List.mem_of_getElem? (i := 187) rfl)⟩
theorem lw_p46 : lw_okq (⟨"MoodFareModel", "isCorner", "(I)Z"⟩, 32) := ⟨⟨by decide +kernel, by decide +kernel⟩, lw_t6 (List.mem_of_getElem? (i := 203) rfl), lw_t7 (List.mem_of_getElem? (i := 203) rfl), lw_t7 (List.mem_of_getElem? (i := 204) rfl)⟩
theorem lw_p47 : lw_okq (⟨"MoodFareModel", "isTown", "()Z"⟩, 32) := ⟨⟨by decide +kernel, by decide +kernel⟩, lw_t6 (List.mem_of_getElem? (i := 203) rfl), lw_t7 (List.mem_of_getElem? (i := 211) rfl), lw_t7 (List.mem_of_getElem? (i := 212) rfl)⟩
def lw_privs_3 : List (MethodName × Nat) := [(⟨"MoodFareModel", "isMissing", "(I)Z"⟩, 32), (⟨"MoodFareModel", "isPart", "(III)Z"⟩, 32), (⟨"MoodFareModel", "advances", "()V"⟩, 32), (⟨"MoodFareModel", "byteAt", "(I)I"⟩, 32), (⟨"MoodFareModel", "takes", "(ZI)I"⟩, 32), (⟨"MoodFareModel", "isWell", "()Z"⟩, 32), (⟨"MoodFareModel", "figure", "(II)I"⟩, 32), (⟨"MoodFareModel", "follows", "(II)I"⟩, 32), (⟨"MoodFareModel", "readsCorner", "()V"⟩, 32), (⟨"MoodFareModel", "readsStreet", "()V"⟩, 32), (⟨"MoodFareModel", "toFigure", "(I)I"⟩, 32), (⟨"MoodFareModel", "isStreetTold", "(II)Z"⟩, 32), (⟨"MoodFareModel", "isStreet", "(I)Z"⟩, 32), (⟨"MoodFareModel", "notes", "()V"⟩, 32), (⟨"MoodFareModel", "isCorner", "(I)Z"⟩, 32), (⟨"MoodFareModel", "isTown", "()Z"⟩, 32)]
theorem lw_r3 : ∀ q ∈ lw_privs_3, lw_okq q := List.forall_mem_cons.mpr ⟨lw_p32, List.forall_mem_cons.mpr ⟨lw_p33, List.forall_mem_cons.mpr ⟨lw_p34, List.forall_mem_cons.mpr ⟨lw_p35, List.forall_mem_cons.mpr ⟨lw_p36, List.forall_mem_cons.mpr ⟨lw_p37, List.forall_mem_cons.mpr ⟨lw_p38, List.forall_mem_cons.mpr ⟨lw_p39, List.forall_mem_cons.mpr ⟨lw_p40, List.forall_mem_cons.mpr ⟨lw_p41, List.forall_mem_cons.mpr ⟨lw_p42, List.forall_mem_cons.mpr ⟨lw_p43, List.forall_mem_cons.mpr ⟨lw_p44, List.forall_mem_cons.mpr ⟨lw_p45, List.forall_mem_cons.mpr ⟨lw_p46, List.forall_mem_cons.mpr ⟨lw_p47, fun _ h => absurd h List.not_mem_nil⟩⟩⟩⟩⟩⟩⟩⟩⟩⟩⟩⟩⟩⟩⟩⟩
theorem lw_p48 : lw_okq (⟨"MoodFareModel", "ends", "(II)I"⟩, 32) := ⟨⟨by decide +kernel, by decide +kernel⟩, lw_t6 (List.mem_of_getElem? (i := 203) rfl), lw_t7 (List.mem_of_getElem? (i := 227) rfl), lw_t7 (List.mem_of_getElem? (i := 228) rfl)⟩
theorem lw_p49 : lw_okq (⟨"MoodFareModel", "finds", "(II)V"⟩, 32) := ⟨⟨by decide +kernel, by decide +kernel⟩, lw_t6 (List.mem_of_getElem? (i := 203) rfl), lw_t8 (List.mem_of_getElem? (i := 7) rfl), lw_t8 (List.mem_of_getElem? (i := 8) rfl)⟩
theorem lw_p50 : lw_okq (⟨"MoodFareModel", "begins", "()V"⟩, 32) := ⟨⟨by decide +kernel, by decide +kernel⟩, lw_t6 (List.mem_of_getElem? (i := 203) rfl), lw_t8 (List.mem_of_getElem? (i := 11) rfl), lw_t8 (List.mem_of_getElem? (i := 12) rfl)⟩
theorem lw_p51 : lw_okq (⟨"MoodFareModel", "keeps", "(I)V"⟩, 32) := ⟨⟨by decide +kernel, by decide +kernel⟩, lw_t6 (List.mem_of_getElem? (i := 203) rfl), lw_t8 (List.mem_of_getElem? (i := 15) rfl), lw_t8 (List.mem_of_getElem? (i := 16) rfl)⟩
theorem lw_p52 : lw_okq (⟨"MoodFareModel", "goesOn", "(I)Z"⟩, 32) := ⟨⟨by decide +kernel, by decide +kernel⟩, lw_t6 (List.mem_of_getElem? (i := 203) rfl), lw_t8 (List.mem_of_getElem? (i := 19) rfl), lw_t8 (List.mem_of_getElem? (i := 20) rfl)⟩
theorem lw_p53 : lw_okq (⟨"MoodFareModel", "adds", "(I)V"⟩, 32) := ⟨⟨by decide +kernel, by decide +kernel⟩, lw_t6 (List.mem_of_getElem? (i := 203) rfl), lw_t8 (List.mem_of_getElem? (i := 23) rfl), lw_t8 (List.mem_of_getElem? (i := 24) rfl)⟩
theorem lw_p54 : lw_okq (⟨"MoodFareModel", "told", "(II)I"⟩, 32) := ⟨⟨by decide +kernel, by decide +kernel⟩, lw_t6 (List.mem_of_getElem? (i := 203) rfl), lw_t8 (List.mem_of_getElem? (i := 27) rfl), lw_t8 (List.mem_of_getElem? (i := 28) rfl)⟩
theorem lw_p55 : lw_okq (⟨"MoodFareModel", "bar", "(IIIII)I"⟩, 32) := ⟨⟨by decide +kernel, by decide +kernel⟩, lw_t6 (List.mem_of_getElem? (i := 203) rfl), lw_t8 (List.mem_of_getElem? (i := 47) rfl), lw_t8 (List.mem_of_getElem? (i := 48) rfl)⟩
theorem lw_p56 : lw_okq (⟨"MoodFareModel", "all", "(IIIIII)I"⟩, 32) := ⟨⟨by decide +kernel, by decide +kernel⟩, lw_t6 (List.mem_of_getElem? (i := 203) rfl), lw_t8 (List.mem_of_getElem? (i := 51) rfl), lw_t8 (List.mem_of_getElem? (i := 52) rfl)⟩
theorem lw_p57 : lw_okq (⟨"MoodFareModel", "goesSo", "(III)Z"⟩, 32) := ⟨⟨by decide +kernel, by decide +kernel⟩, lw_t6 (List.mem_of_getElem? (i := 203) rfl), lw_t8 (List.mem_of_getElem? (i := 55) rfl), lw_t8 (List.mem_of_getElem? (i := 56) rfl)⟩
theorem lw_p58 : lw_okq (⟨"MoodFareModel", "streetAfter", "(I)I"⟩, 32) := ⟨⟨by decide +kernel, by decide +kernel⟩, lw_t6 (List.mem_of_getElem? (i := 203) rfl), lw_t8 (List.mem_of_getElem? (i := 78) rfl), lw_t8 (List.mem_of_getElem? (i := 79) rfl)⟩
theorem lw_p59 : lw_okq (⟨"MoodFareModel", "kindIn", "(I)I"⟩, 32) := ⟨⟨by decide +kernel, by decide +kernel⟩, lw_t6 (List.mem_of_getElem? (i := 203) rfl), lw_t8 (List.mem_of_getElem? (i := 94) rfl), lw_t8 (List.mem_of_getElem? (i := 95) rfl)⟩
theorem lw_p60 : lw_okq (⟨"MoodFareModel", "griefSize", "(I)I"⟩, 32) := ⟨⟨by decide +kernel, by decide +kernel⟩, lw_t6 (List.mem_of_getElem? (i := 203) rfl), lw_t8 (List.mem_of_getElem? (i := 106) rfl), lw_t8 (List.mem_of_getElem? (i := 107) rfl)⟩
theorem lw_p61 : lw_okq (⟨"MoodFareModel", "leaves", "(I)V"⟩, 32) := ⟨⟨by decide +kernel, by decide +kernel⟩, lw_t6 (List.mem_of_getElem? (i := 203) rfl), lw_t8 (List.mem_of_getElem? (i := 110) rfl), lw_t8 (List.mem_of_getElem? (i := 111) rfl)⟩
theorem lw_p62 : lw_okq (⟨"MoodFareModel", "joySize", "(I)I"⟩, 32) := ⟨⟨by decide +kernel, by decide +kernel⟩, lw_t6 (List.mem_of_getElem? (i := 203) rfl), lw_t8 (List.mem_of_getElem? (i := 114) rfl), lw_t8 (List.mem_of_getElem? (i := 115) rfl)⟩
theorem lw_p63 : lw_okq (⟨"MoodFareModel", "joyMark", "(I)I"⟩, 32) := ⟨⟨by decide +kernel, by decide +kernel⟩, lw_t6 (List.mem_of_getElem? (i := 203) rfl), lw_t8 (List.mem_of_getElem? (i := 118) rfl), lw_t8 (List.mem_of_getElem? (i := 119) rfl)⟩
def lw_privs_4 : List (MethodName × Nat) := [(⟨"MoodFareModel", "ends", "(II)I"⟩, 32), (⟨"MoodFareModel", "finds", "(II)V"⟩, 32), (⟨"MoodFareModel", "begins", "()V"⟩, 32), (⟨"MoodFareModel", "keeps", "(I)V"⟩, 32), (⟨"MoodFareModel", "goesOn", "(I)Z"⟩, 32), (⟨"MoodFareModel", "adds", "(I)V"⟩, 32), (⟨"MoodFareModel", "told", "(II)I"⟩, 32), (⟨"MoodFareModel", "bar", "(IIIII)I"⟩, 32), (⟨"MoodFareModel", "all", "(IIIIII)I"⟩, 32), (⟨"MoodFareModel", "goesSo", "(III)Z"⟩, 32), (⟨"MoodFareModel", "streetAfter", "(I)I"⟩, 32), (⟨"MoodFareModel", "kindIn", "(I)I"⟩, 32), (⟨"MoodFareModel", "griefSize", "(I)I"⟩, 32), (⟨"MoodFareModel", "leaves", "(I)V"⟩, 32), (⟨"MoodFareModel", "joySize", "(I)I"⟩, 32), (⟨"MoodFareModel", "joyMark", "(I)I"⟩, 32)]
theorem lw_r4 : ∀ q ∈ lw_privs_4, lw_okq q := List.forall_mem_cons.mpr ⟨lw_p48, List.forall_mem_cons.mpr ⟨lw_p49, List.forall_mem_cons.mpr ⟨lw_p50, List.forall_mem_cons.mpr ⟨lw_p51, List.forall_mem_cons.mpr ⟨lw_p52, List.forall_mem_cons.mpr ⟨lw_p53, List.forall_mem_cons.mpr ⟨lw_p54, List.forall_mem_cons.mpr ⟨lw_p55, List.forall_mem_cons.mpr ⟨lw_p56, List.forall_mem_cons.mpr ⟨lw_p57, List.forall_mem_cons.mpr ⟨lw_p58, List.forall_mem_cons.mpr ⟨lw_p59, List.forall_mem_cons.mpr ⟨lw_p60, List.forall_mem_cons.mpr ⟨lw_p61, List.forall_mem_cons.mpr ⟨lw_p62, List.forall_mem_cons.mpr ⟨lw_p63, fun _ h => absurd h List.not_mem_nil⟩⟩⟩⟩⟩⟩⟩⟩⟩⟩⟩⟩⟩⟩⟩⟩
theorem lw_p64 : lw_okq (⟨"MoodFareModel", "griefMark", "(I)I"⟩, 32) := ⟨⟨by decide +kernel, by decide +kernel⟩, lw_t6 (List.mem_of_getElem? (i := 203) rfl), lw_t8 (List.mem_of_getElem? (i := 122) rfl), lw_t8 (List.mem_of_getElem? (i := 123) rfl)⟩
def lw_privs_5 : List (MethodName × Nat) := [(⟨"MoodFareModel", "griefMark", "(I)I"⟩, 32)]
theorem lw_r5 : ∀ q ∈ lw_privs_5, lw_okq q := List.forall_mem_cons.mpr ⟨lw_p64, fun _ h => absurd h List.not_mem_nil⟩
def lw_privs : List (MethodName × Nat) := lw_privs_1 ++ (lw_privs_2 ++ (lw_privs_3 ++ (lw_privs_4 ++ (lw_privs_5))))
def lw_tbl : List Cond := k2_sels lw_privs ++ tables_1
theorem lw_privs_ok : ∀ q ∈ lw_privs, lw_okq q := by
  show ∀ q ∈ lw_privs_1 ++ (lw_privs_2 ++ (lw_privs_3 ++ (lw_privs_4 ++ (lw_privs_5)))), lw_okq q
  exact List.forall_mem_append.mpr ⟨lw_r1, List.forall_mem_append.mpr ⟨lw_r2, List.forall_mem_append.mpr ⟨lw_r3, List.forall_mem_append.mpr ⟨lw_r4, lw_r5⟩⟩⟩⟩
-- ===== ONE list of words for every method: the tables' words that hold all through a run =====
def lw_all : List Cond := lw_tbl.filter goodWord
/-- a word of the tables by its place: claim/WORDS.tsv -/
theorem lw_w {w : Cond} (i : Nat) (h : lw_tbl[i]? = some w) (g : goodWord w = true) : w ∈ lw_all := List.mem_filter.mpr ⟨List.mem_of_getElem? h, g⟩
theorem lw_all_tbl {w : Cond} (h : w ∈ lw_all) : w ∈ lw_tbl := (List.mem_filter.mp h).1
theorem lw_self : GoodIn lw_all lw_all := fun w h => ⟨h, good_of_word (List.mem_filter.mp h).2⟩
/-- a class's field words, by their places -/
theorem lw_in (ws : List Cond) (ps : List Nat) (hp : ws = ps.filterMap (fun i => lw_tbl[i]?)) (hg : ws.all goodWord = true) : ∀ w ∈ ws, w ∈ lw_all := by
  intro w h
  have h1 := List.all_eq_true.mp hg w h
  rw [hp] at h
  obtain ⟨i, -, hi⟩ := List.mem_filterMap.mp h
  exact lw_w i hi h1
/-- the words of a contract for the method y with code b, L locals, answer r -/
abbrev ws_ (y : MethodName) (b : ByteArray) (L : Nat) (r : Option FieldType) : List Cond := Cond.code y b L r :: lw_all
theorem lw_meth {y : MethodName} {b : ByteArray} {L : Nat} {r : Option FieldType} (h : Cond.code y b L r ∈ lw_all) : GoodIn lw_all (ws_ y b L r) := by
  intro w hw
  rcases List.mem_cons.mp hw with e | e
  · rw [e]
    exact lw_self _ h
  · exact lw_self _ e
theorem lw_app {a c : List Cond} (ha : ∀ w ∈ a, w ∈ lw_all) (hc : GoodIn lw_all c) : GoodIn lw_all (a ++ c) := by
  intro w hw
  rcases List.mem_append.mp hw with e | e
  · exact lw_self w (ha w e)
  · exact hc w e
/-- what a call through an object asks: cwV n hts (lw_V ..) -/
theorem lw_V {own : String} {idx : Nat} {C : String} {y : MethodName} {b : ByteArray} {L : Nat} {r : Option FieldType} (h1 : Cond.methodLink own idx y ∈ lw_all) (h2 : Cond.instanceMethod y ∈ lw_all) (h3 : Cond.selects C y y ∈ lw_all) (h4 : Cond.initialized C ∈ lw_all) (h5 : Cond.code y b L r ∈ lw_all) : GoodIn lw_all (wsV own idx C y (ws_ y b L r)) := by
  refine lw_app ?_ (lw_meth h5)
  intro w hw
  simp only [List.mem_cons, List.not_mem_nil, or_false] at hw
  rcases hw with e | e | e | e
  · rw [e]; exact h1
  · rw [e]; exact h2
  · rw [e]; exact h3
  · rw [e]; exact h4
/-- what a static call asks: va_cwS n hts (lw_S ..) -/
theorem lw_S {own : String} {idx : Nat} {y : MethodName} {b : ByteArray} {L : Nat} {r : Option FieldType} (h1 : Cond.methodLink own idx y ∈ lw_all) (h2 : Cond.static y ∈ lw_all) (h3 : Cond.initialized y.cls ∈ lw_all) (h4 : Cond.code y b L r ∈ lw_all) : GoodIn lw_all (va_wsS own idx y (ws_ y b L r)) := by
  refine lw_app ?_ (lw_meth h4)
  intro w hw
  simp only [List.mem_cons, List.not_mem_nil, or_false] at hw
  rcases hw with e | e | e
  · rw [e]; exact h1
  · rw [e]; exact h2
  · rw [e]; exact h3
/-- the words of a contract for a method WITH HANDLERS (hh: its table) -/
abbrev wsW_ (y : MethodName) (b : ByteArray) (L : Nat) (r : Option FieldType) (hh : List (Nat × Nat × Nat × Nat)) : List Cond := Cond.codeWith y b L r hh :: lw_all
theorem lw_methW {y : MethodName} {b : ByteArray} {L : Nat} {r : Option FieldType} {hh : List (Nat × Nat × Nat × Nat)} (h : Cond.codeWith y b L r hh ∈ lw_all) : GoodIn lw_all (wsW_ y b L r hh) := by
  intro w hw
  rcases List.mem_cons.mp hw with e | e
  · rw [e]
    exact lw_self _ h
  · exact lw_self _ e
/-- any list of words by their places (lw_in), good -/
theorem lw_good {ws : List Cond} (h : ∀ w ∈ ws, w ∈ lw_all) : GoodIn lw_all ws := fun w hw => lw_self w (h w hw)
/-- what a call of a method with handlers asks: vx_cwVW n hts (lw_VW ..), vx_cwSW n hts (lw_SW ..) -/
theorem lw_VW {own : String} {idx : Nat} {C : String} {y : MethodName} {b : ByteArray} {L : Nat} {r : Option FieldType} {hh : List (Nat × Nat × Nat × Nat)} (h1 : Cond.methodLink own idx y ∈ lw_all) (h2 : Cond.instanceMethod y ∈ lw_all) (h3 : Cond.selects C y y ∈ lw_all) (h4 : Cond.initialized C ∈ lw_all) (h5 : Cond.codeWith y b L r hh ∈ lw_all) : GoodIn lw_all (wsV own idx C y (wsW_ y b L r hh)) := by
  refine lw_app ?_ (lw_methW h5)
  intro w hw
  simp only [List.mem_cons, List.not_mem_nil, or_false] at hw
  rcases hw with e | e | e | e
  · rw [e]; exact h1
  · rw [e]; exact h2
  · rw [e]; exact h3
  · rw [e]; exact h4
theorem lw_SW {own : String} {idx : Nat} {y : MethodName} {b : ByteArray} {L : Nat} {r : Option FieldType} {hh : List (Nat × Nat × Nat × Nat)} (h1 : Cond.methodLink own idx y ∈ lw_all) (h2 : Cond.static y ∈ lw_all) (h3 : Cond.initialized y.cls ∈ lw_all) (h4 : Cond.codeWith y b L r hh ∈ lw_all) : GoodIn lw_all (va_wsS own idx y (wsW_ y b L r hh)) := by
  refine lw_app ?_ (lw_methW h4)
  intro w hw
  simp only [List.mem_cons, List.not_mem_nil, or_false] at hw
  rcases hw with e | e | e
  · rw [e]; exact h1
  · rw [e]; exact h2
  · rw [e]; exact h3
/-- a word by its place in its run of the tables -/
theorem lw_at {r : List Cond} (hr : ∀ w ∈ r, w ∈ lw_tbl) {w : Cond} (i : Nat) (h : r[i]? = some w) : w ∈ lw_tbl := hr w (List.mem_of_getElem? h)
theorem lw_g {w : Cond} (h : w ∈ lw_tbl) (g : goodWord w = true) : w ∈ lw_all := List.mem_filter.mpr ⟨h, g⟩
theorem lw_ms : ∀ w ∈ k2_sels lw_privs, w ∈ lw_tbl := fun w h => show w ∈ k2_sels lw_privs ++ tables_1 from List.mem_append_left _ h
theorem lw_m1 : ∀ w ∈ tables_1_1, w ∈ lw_tbl := fun w h => show w ∈ k2_sels lw_privs ++ tables_1 from List.mem_append_right (k2_sels lw_privs) (show w ∈ tables_1 from List.mem_append_left _ h)
theorem lw_m2 : ∀ w ∈ tables_1_2, w ∈ lw_tbl := fun w h => show w ∈ k2_sels lw_privs ++ tables_1 from List.mem_append_right (k2_sels lw_privs) (show w ∈ tables_1 from List.mem_append_right _ (List.mem_append_left _ h))
theorem lw_m3 : ∀ w ∈ tables_1_3, w ∈ lw_tbl := fun w h => show w ∈ k2_sels lw_privs ++ tables_1 from List.mem_append_right (k2_sels lw_privs) (show w ∈ tables_1 from List.mem_append_right _ (List.mem_append_right _ (List.mem_append_left _ h)))
theorem lw_m4 : ∀ w ∈ tables_1_4, w ∈ lw_tbl := fun w h => show w ∈ k2_sels lw_privs ++ tables_1 from List.mem_append_right (k2_sels lw_privs) (show w ∈ tables_1 from List.mem_append_right _ (List.mem_append_right _ (List.mem_append_right _ (List.mem_append_left _ h))))
theorem lw_m5 : ∀ w ∈ tables_1_5, w ∈ lw_tbl := fun w h => show w ∈ k2_sels lw_privs ++ tables_1 from List.mem_append_right (k2_sels lw_privs) (show w ∈ tables_1 from List.mem_append_right _ (List.mem_append_right _ (List.mem_append_right _ (List.mem_append_right _ (List.mem_append_left _ h)))))
theorem lw_m6 : ∀ w ∈ tables_1_6, w ∈ lw_tbl := fun w h => show w ∈ k2_sels lw_privs ++ tables_1 from List.mem_append_right (k2_sels lw_privs) (show w ∈ tables_1 from List.mem_append_right _ (List.mem_append_right _ (List.mem_append_right _ (List.mem_append_right _ (List.mem_append_right _ (List.mem_append_left _ h))))))
theorem lw_m7 : ∀ w ∈ tables_1_7, w ∈ lw_tbl := fun w h => show w ∈ k2_sels lw_privs ++ tables_1 from List.mem_append_right (k2_sels lw_privs) (show w ∈ tables_1 from List.mem_append_right _ (List.mem_append_right _ (List.mem_append_right _ (List.mem_append_right _ (List.mem_append_right _ (List.mem_append_right _ (List.mem_append_left _ h)))))))
theorem lw_m8 : ∀ w ∈ tables_1_8, w ∈ lw_tbl := fun w h => show w ∈ k2_sels lw_privs ++ tables_1 from List.mem_append_right (k2_sels lw_privs) (show w ∈ tables_1 from List.mem_append_right _ (List.mem_append_right _ (List.mem_append_right _ (List.mem_append_right _ (List.mem_append_right _ (List.mem_append_right _ (List.mem_append_right _ h)))))))
theorem qs0 : (Cond.selects "java/lang/NullPointerException" ⟨"java/lang/NullPointerException", "getExtendedNPEMessage", "()Ljava/lang/String;"⟩ ⟨"java/lang/NullPointerException", "getExtendedNPEMessage", "()Ljava/lang/String;"⟩) ∈ lw_all := lw_g (lw_at lw_ms 0 rfl) rfl
theorem qs1 : (Cond.selects "java/lang/Throwable" ⟨"java/lang/Throwable", "fillInStackTrace", "(I)Ljava/lang/Throwable;"⟩ ⟨"java/lang/Throwable", "fillInStackTrace", "(I)Ljava/lang/Throwable;"⟩) ∈ lw_all := lw_g (lw_at lw_ms 1 rfl) rfl
theorem qs2 : (Cond.selects "MoodFare" ⟨"MoodFare", "well", "(I)I"⟩ ⟨"MoodFare", "well", "(I)I"⟩) ∈ lw_all := lw_g (lw_at lw_ms 2 rfl) rfl
theorem qs3 : (Cond.selects "MoodFare" ⟨"MoodFare", "found", "(I)I"⟩ ⟨"MoodFare", "found", "(I)I"⟩) ∈ lw_all := lw_g (lw_at lw_ms 3 rfl) rfl
theorem qs4 : (Cond.selects "MoodFare$Shelf" ⟨"MoodFare$Shelf", "put", "(II)I"⟩ ⟨"MoodFare$Shelf", "put", "(II)I"⟩) ∈ lw_all := lw_g (lw_at lw_ms 4 rfl) rfl
theorem qs5 : (Cond.selects "MoodFare$Shelf" ⟨"MoodFare$Shelf", "at", "(I)I"⟩ ⟨"MoodFare$Shelf", "at", "(I)I"⟩) ∈ lw_all := lw_g (lw_at lw_ms 5 rfl) rfl
theorem qs6 : (Cond.selects "MoodFare$Shelf" ⟨"MoodFare$Shelf", "many", "()I"⟩ ⟨"MoodFare$Shelf", "many", "()I"⟩) ∈ lw_all := lw_g (lw_at lw_ms 6 rfl) rfl
theorem qs7 : (Cond.selects "MoodFare$Reader" ⟨"MoodFare$Reader", "next", "()V"⟩ ⟨"MoodFare$Reader", "next", "()V"⟩) ∈ lw_all := lw_g (lw_at lw_ms 7 rfl) rfl
theorem qs8 : (Cond.selects "MoodFare$Reader" ⟨"MoodFare$Reader", "look", "()I"⟩ ⟨"MoodFare$Reader", "look", "()I"⟩) ∈ lw_all := lw_g (lw_at lw_ms 8 rfl) rfl
theorem qs9 : (Cond.selects "MoodFare$Reader" ⟨"MoodFare$Reader", "is", "(II)Z"⟩ ⟨"MoodFare$Reader", "is", "(II)Z"⟩) ∈ lw_all := lw_g (lw_at lw_ms 9 rfl) rfl
theorem qs10 : (Cond.selects "MoodFare$Reader" ⟨"MoodFare$Reader", "must", "(ZI)V"⟩ ⟨"MoodFare$Reader", "must", "(ZI)V"⟩) ∈ lw_all := lw_g (lw_at lw_ms 10 rfl) rfl
theorem qs11 : (Cond.selects "MoodFare$Reader" ⟨"MoodFare$Reader", "figure", "(II)I"⟩ ⟨"MoodFare$Reader", "figure", "(II)I"⟩) ∈ lw_all := lw_g (lw_at lw_ms 11 rfl) rfl
theorem qs12 : (Cond.selects "MoodFare$Reader" ⟨"MoodFare$Reader", "sign", "(I)V"⟩ ⟨"MoodFare$Reader", "sign", "(I)V"⟩) ∈ lw_all := lw_g (lw_at lw_ms 12 rfl) rfl
theorem qs13 : (Cond.selects "MoodFare$Reader" ⟨"MoodFare$Reader", "corner", "()V"⟩ ⟨"MoodFare$Reader", "corner", "()V"⟩) ∈ lw_all := lw_g (lw_at lw_ms 13 rfl) rfl
theorem qs14 : (Cond.selects "java/util/ArrayList" ⟨"java/util/ArrayList", "add", "(Ljava/lang/Object;[Ljava/lang/Object;I)V"⟩ ⟨"java/util/ArrayList", "add", "(Ljava/lang/Object;[Ljava/lang/Object;I)V"⟩) ∈ lw_all := lw_g (lw_at lw_ms 14 rfl) rfl
theorem qs15 : (Cond.selects "java/util/ArrayList" ⟨"java/util/ArrayList", "grow", "()[Ljava/lang/Object;"⟩ ⟨"java/util/ArrayList", "grow", "()[Ljava/lang/Object;"⟩) ∈ lw_all := lw_g (lw_at lw_ms 15 rfl) rfl
theorem qs16 : (Cond.selects "java/util/ArrayList" ⟨"java/util/ArrayList", "grow", "(I)[Ljava/lang/Object;"⟩ ⟨"java/util/ArrayList", "grow", "(I)[Ljava/lang/Object;"⟩) ∈ lw_all := lw_g (lw_at lw_ms 16 rfl) rfl
theorem qs17 : (Cond.selects "MoodFare$Reader" ⟨"MoodFare$Reader", "street", "()V"⟩ ⟨"MoodFare$Reader", "street", "()V"⟩) ∈ lw_all := lw_g (lw_at lw_ms 17 rfl) rfl
theorem qs18 : (Cond.selects "MoodFare" ⟨"MoodFare", "isStreet", "(I)Z"⟩ ⟨"MoodFare", "isStreet", "(I)Z"⟩) ∈ lw_all := lw_g (lw_at lw_ms 18 rfl) rfl
theorem qs19 : (Cond.selects "MoodFare" ⟨"MoodFare", "keep", "()V"⟩ ⟨"MoodFare", "keep", "()V"⟩) ∈ lw_all := lw_g (lw_at lw_ms 19 rfl) rfl
theorem qs20 : (Cond.selects "MoodFare" ⟨"MoodFare", "isCorner", "(I)Z"⟩ ⟨"MoodFare", "isCorner", "(I)Z"⟩) ∈ lw_all := lw_g (lw_at lw_ms 20 rfl) rfl
theorem qs21 : (Cond.selects "MoodFare" ⟨"MoodFare", "isThere", "()Z"⟩ ⟨"MoodFare", "isThere", "()Z"⟩) ∈ lw_all := lw_g (lw_at lw_ms 21 rfl) rfl
theorem qs22 : (Cond.selects "MoodFare" ⟨"MoodFare", "streetsAt", "([II)I"⟩ ⟨"MoodFare", "streetsAt", "([II)I"⟩) ∈ lw_all := lw_g (lw_at lw_ms 22 rfl) rfl
theorem qs23 : (Cond.selects "MoodFare" ⟨"MoodFare", "asNow", "()LMoodFare$Town;"⟩ ⟨"MoodFare", "asNow", "()LMoodFare$Town;"⟩) ∈ lw_all := lw_g (lw_at lw_ms 23 rfl) rfl
theorem qs24 : (Cond.selects "MoodFare" ⟨"MoodFare", "cheapestTo", "(I)LMoodFare$Cheapest;"⟩ ⟨"MoodFare", "cheapestTo", "(I)LMoodFare$Cheapest;"⟩) ∈ lw_all := lw_g (lw_at lw_ms 24 rfl) rfl
theorem qs25 : (Cond.selects "MoodFare" ⟨"MoodFare", "rowsOf", "(IIILMoodFare$Worth;)V"⟩ ⟨"MoodFare", "rowsOf", "(IIILMoodFare$Worth;)V"⟩) ∈ lw_all := lw_g (lw_at lw_ms 25 rfl) rfl
theorem qs26 : (Cond.selects "MoodFare" ⟨"MoodFare", "rider", "(I)LMoodFare$Town;"⟩ ⟨"MoodFare", "rider", "(I)LMoodFare$Town;"⟩) ∈ lw_all := lw_g (lw_at lw_ms 26 rfl) rfl
theorem qs27 : (Cond.selects "MoodFare" ⟨"MoodFare", "told", "(IIIIILMoodFare$Told;)I"⟩ ⟨"MoodFare", "told", "(IIIIILMoodFare$Told;)I"⟩) ∈ lw_all := lw_g (lw_at lw_ms 27 rfl) rfl
theorem qs28 : (Cond.selects "MoodFare" ⟨"MoodFare", "items", "(III)[I"⟩ ⟨"MoodFare", "items", "(III)[I"⟩) ∈ lw_all := lw_g (lw_at lw_ms 28 rfl) rfl
theorem qs29 : (Cond.selects "MoodFare" ⟨"MoodFare", "costsSo", "([I[I)Z"⟩ ⟨"MoodFare", "costsSo", "([I[I)Z"⟩) ∈ lw_all := lw_g (lw_at lw_ms 29 rfl) rfl
theorem qs30 : (Cond.selects "MoodFareModel" ⟨"MoodFareModel", "found", "(I)I"⟩ ⟨"MoodFareModel", "found", "(I)I"⟩) ∈ lw_all := lw_g (lw_at lw_ms 30 rfl) rfl
theorem qs31 : (Cond.selects "MoodFareModel" ⟨"MoodFareModel", "well", "(I)I"⟩ ⟨"MoodFareModel", "well", "(I)I"⟩) ∈ lw_all := lw_g (lw_at lw_ms 31 rfl) rfl
theorem qs32 : (Cond.selects "MoodFareModel" ⟨"MoodFareModel", "isMissing", "(I)Z"⟩ ⟨"MoodFareModel", "isMissing", "(I)Z"⟩) ∈ lw_all := lw_g (lw_at lw_ms 32 rfl) rfl
theorem qs33 : (Cond.selects "MoodFareModel" ⟨"MoodFareModel", "isPart", "(III)Z"⟩ ⟨"MoodFareModel", "isPart", "(III)Z"⟩) ∈ lw_all := lw_g (lw_at lw_ms 33 rfl) rfl
theorem qs34 : (Cond.selects "MoodFareModel" ⟨"MoodFareModel", "advances", "()V"⟩ ⟨"MoodFareModel", "advances", "()V"⟩) ∈ lw_all := lw_g (lw_at lw_ms 34 rfl) rfl
theorem qs35 : (Cond.selects "MoodFareModel" ⟨"MoodFareModel", "byteAt", "(I)I"⟩ ⟨"MoodFareModel", "byteAt", "(I)I"⟩) ∈ lw_all := lw_g (lw_at lw_ms 35 rfl) rfl
theorem qs36 : (Cond.selects "MoodFareModel" ⟨"MoodFareModel", "takes", "(ZI)I"⟩ ⟨"MoodFareModel", "takes", "(ZI)I"⟩) ∈ lw_all := lw_g (lw_at lw_ms 36 rfl) rfl
theorem qs37 : (Cond.selects "MoodFareModel" ⟨"MoodFareModel", "isWell", "()Z"⟩ ⟨"MoodFareModel", "isWell", "()Z"⟩) ∈ lw_all := lw_g (lw_at lw_ms 37 rfl) rfl
theorem qs38 : (Cond.selects "MoodFareModel" ⟨"MoodFareModel", "figure", "(II)I"⟩ ⟨"MoodFareModel", "figure", "(II)I"⟩) ∈ lw_all := lw_g (lw_at lw_ms 38 rfl) rfl
theorem qs39 : (Cond.selects "MoodFareModel" ⟨"MoodFareModel", "follows", "(II)I"⟩ ⟨"MoodFareModel", "follows", "(II)I"⟩) ∈ lw_all := lw_g (lw_at lw_ms 39 rfl) rfl
theorem qs40 : (Cond.selects "MoodFareModel" ⟨"MoodFareModel", "readsCorner", "()V"⟩ ⟨"MoodFareModel", "readsCorner", "()V"⟩) ∈ lw_all := lw_g (lw_at lw_ms 40 rfl) rfl
theorem qs41 : (Cond.selects "MoodFareModel" ⟨"MoodFareModel", "readsStreet", "()V"⟩ ⟨"MoodFareModel", "readsStreet", "()V"⟩) ∈ lw_all := lw_g (lw_at lw_ms 41 rfl) rfl
theorem qs42 : (Cond.selects "MoodFareModel" ⟨"MoodFareModel", "toFigure", "(I)I"⟩ ⟨"MoodFareModel", "toFigure", "(I)I"⟩) ∈ lw_all := lw_g (lw_at lw_ms 42 rfl) rfl
theorem qs43 : (Cond.selects "MoodFareModel" ⟨"MoodFareModel", "isStreetTold", "(II)Z"⟩ ⟨"MoodFareModel", "isStreetTold", "(II)Z"⟩) ∈ lw_all := lw_g (lw_at lw_ms 43 rfl) rfl
theorem qs44 : (Cond.selects "MoodFareModel" ⟨"MoodFareModel", "isStreet", "(I)Z"⟩ ⟨"MoodFareModel", "isStreet", "(I)Z"⟩) ∈ lw_all := lw_g (lw_at lw_ms 44 rfl) rfl
theorem qs45 : (Cond.selects "MoodFareModel" ⟨"MoodFareModel", "notes", "()V"⟩ ⟨"MoodFareModel", "notes", "()V"⟩) ∈ lw_all := lw_g (lw_at lw_ms 45 rfl) rfl
theorem qs46 : (Cond.selects "MoodFareModel" ⟨"MoodFareModel", "isCorner", "(I)Z"⟩ ⟨"MoodFareModel", "isCorner", "(I)Z"⟩) ∈ lw_all := lw_g (lw_at lw_ms 46 rfl) rfl
theorem qs47 : (Cond.selects "MoodFareModel" ⟨"MoodFareModel", "isTown", "()Z"⟩ ⟨"MoodFareModel", "isTown", "()Z"⟩) ∈ lw_all := lw_g (lw_at lw_ms 47 rfl) rfl
theorem qs48 : (Cond.selects "MoodFareModel" ⟨"MoodFareModel", "ends", "(II)I"⟩ ⟨"MoodFareModel", "ends", "(II)I"⟩) ∈ lw_all := lw_g (lw_at lw_ms 48 rfl) rfl
theorem qs49 : (Cond.selects "MoodFareModel" ⟨"MoodFareModel", "finds", "(II)V"⟩ ⟨"MoodFareModel", "finds", "(II)V"⟩) ∈ lw_all := lw_g (lw_at lw_ms 49 rfl) rfl
theorem qs50 : (Cond.selects "MoodFareModel" ⟨"MoodFareModel", "begins", "()V"⟩ ⟨"MoodFareModel", "begins", "()V"⟩) ∈ lw_all := lw_g (lw_at lw_ms 50 rfl) rfl
theorem qs51 : (Cond.selects "MoodFareModel" ⟨"MoodFareModel", "keeps", "(I)V"⟩ ⟨"MoodFareModel", "keeps", "(I)V"⟩) ∈ lw_all := lw_g (lw_at lw_ms 51 rfl) rfl
theorem qs52 : (Cond.selects "MoodFareModel" ⟨"MoodFareModel", "goesOn", "(I)Z"⟩ ⟨"MoodFareModel", "goesOn", "(I)Z"⟩) ∈ lw_all := lw_g (lw_at lw_ms 52 rfl) rfl
theorem qs53 : (Cond.selects "MoodFareModel" ⟨"MoodFareModel", "adds", "(I)V"⟩ ⟨"MoodFareModel", "adds", "(I)V"⟩) ∈ lw_all := lw_g (lw_at lw_ms 53 rfl) rfl
theorem qs54 : (Cond.selects "MoodFareModel" ⟨"MoodFareModel", "told", "(II)I"⟩ ⟨"MoodFareModel", "told", "(II)I"⟩) ∈ lw_all := lw_g (lw_at lw_ms 54 rfl) rfl
theorem qs55 : (Cond.selects "MoodFareModel" ⟨"MoodFareModel", "bar", "(IIIII)I"⟩ ⟨"MoodFareModel", "bar", "(IIIII)I"⟩) ∈ lw_all := lw_g (lw_at lw_ms 55 rfl) rfl
theorem qs56 : (Cond.selects "MoodFareModel" ⟨"MoodFareModel", "all", "(IIIIII)I"⟩ ⟨"MoodFareModel", "all", "(IIIIII)I"⟩) ∈ lw_all := lw_g (lw_at lw_ms 56 rfl) rfl
theorem qs57 : (Cond.selects "MoodFareModel" ⟨"MoodFareModel", "goesSo", "(III)Z"⟩ ⟨"MoodFareModel", "goesSo", "(III)Z"⟩) ∈ lw_all := lw_g (lw_at lw_ms 57 rfl) rfl
theorem qs58 : (Cond.selects "MoodFareModel" ⟨"MoodFareModel", "streetAfter", "(I)I"⟩ ⟨"MoodFareModel", "streetAfter", "(I)I"⟩) ∈ lw_all := lw_g (lw_at lw_ms 58 rfl) rfl
theorem qs59 : (Cond.selects "MoodFareModel" ⟨"MoodFareModel", "kindIn", "(I)I"⟩ ⟨"MoodFareModel", "kindIn", "(I)I"⟩) ∈ lw_all := lw_g (lw_at lw_ms 59 rfl) rfl
theorem qs60 : (Cond.selects "MoodFareModel" ⟨"MoodFareModel", "griefSize", "(I)I"⟩ ⟨"MoodFareModel", "griefSize", "(I)I"⟩) ∈ lw_all := lw_g (lw_at lw_ms 60 rfl) rfl
theorem qs61 : (Cond.selects "MoodFareModel" ⟨"MoodFareModel", "leaves", "(I)V"⟩ ⟨"MoodFareModel", "leaves", "(I)V"⟩) ∈ lw_all := lw_g (lw_at lw_ms 61 rfl) rfl
theorem qs62 : (Cond.selects "MoodFareModel" ⟨"MoodFareModel", "joySize", "(I)I"⟩ ⟨"MoodFareModel", "joySize", "(I)I"⟩) ∈ lw_all := lw_g (lw_at lw_ms 62 rfl) rfl
theorem qs63 : (Cond.selects "MoodFareModel" ⟨"MoodFareModel", "joyMark", "(I)I"⟩ ⟨"MoodFareModel", "joyMark", "(I)I"⟩) ∈ lw_all := lw_g (lw_at lw_ms 63 rfl) rfl
theorem qs64 : (Cond.selects "MoodFareModel" ⟨"MoodFareModel", "griefMark", "(I)I"⟩ ⟨"MoodFareModel", "griefMark", "(I)I"⟩) ∈ lw_all := lw_g (lw_at lw_ms 64 rfl) rfl
