-- ===== PART A: goes FIRST, ahead of the names: the tables' words, and 'selects' of the private methods out of them =====
/-- a private method of a class that the tables say can be made, by its rows of tables_1 -/
def lw_okq (q : MethodName × Nat) : Prop := (q.1.cls ≠ "java/lang/invoke/MethodHandle" ∧ q.1.cls ≠ "java/lang/invoke/VarHandle") ∧ Cond.instantiable q.1.cls q.2 ∈ tables_1 ∧ Cond.privateMethod q.1 ∈ tables_1 ∧ Cond.instanceMethod q.1 ∈ tables_1
set_option maxRecDepth 100000
theorem lw_t1 {w : Cond} (h : w ∈ tables_1_1) : w ∈ tables_1 := List.mem_append_left _ h
theorem lw_t2 {w : Cond} (h : w ∈ tables_1_2) : w ∈ tables_1 := List.mem_append_right _ (List.mem_append_left _ h)
theorem lw_t3 {w : Cond} (h : w ∈ tables_1_3) : w ∈ tables_1 := List.mem_append_right _ (List.mem_append_right _ (List.mem_append_left _ h))
theorem lw_t4 {w : Cond} (h : w ∈ tables_1_4) : w ∈ tables_1 := List.mem_append_right _ (List.mem_append_right _ (List.mem_append_right _ (List.mem_append_left _ h)))
theorem lw_t5 {w : Cond} (h : w ∈ tables_1_5) : w ∈ tables_1 := List.mem_append_right _ (List.mem_append_right _ (List.mem_append_right _ (List.mem_append_right _ (List.mem_append_left _ h))))
theorem lw_t6 {w : Cond} (h : w ∈ tables_1_6) : w ∈ tables_1 := List.mem_append_right _ (List.mem_append_right _ (List.mem_append_right _ (List.mem_append_right _ (List.mem_append_right _ h))))
theorem lw_p0 : lw_okq (⟨"java/lang/NullPointerException", "getExtendedNPEMessage", "()Ljava/lang/String;"⟩, 8) := ⟨⟨by decide +kernel, by decide +kernel⟩, lw_t1 (List.mem_of_getElem? (i := 195) rfl), lw_t1 (List.mem_of_getElem? (i := 193) rfl), lw_t1 (List.mem_of_getElem? (i := 194) rfl)⟩
theorem lw_p1 : lw_okq (⟨"java/lang/Throwable", "fillInStackTrace", "(I)Ljava/lang/Throwable;"⟩, 6) := ⟨⟨by decide +kernel, by decide +kernel⟩, lw_t1 (List.mem_of_getElem? (i := 207) rfl), lw_t1 (List.mem_of_getElem? (i := 205) rfl), lw_t1 (List.mem_of_getElem? (i := 206) rfl)⟩
theorem lw_p2 : lw_okq (⟨"LentYouths", "comesCounter", "([I)I"⟩, 26) := ⟨⟨by decide +kernel, by decide +kernel⟩, lw_t1 (List.mem_of_getElem? (i := 27) rfl), lw_t2 (List.mem_of_getElem? (i := 105) rfl), lw_t2 (List.mem_of_getElem? (i := 106) rfl)⟩
theorem lw_p3 : lw_okq (⟨"LentYouths", "readAll", "([I)Z"⟩, 26) := ⟨⟨by decide +kernel, by decide +kernel⟩, lw_t1 (List.mem_of_getElem? (i := 27) rfl), lw_t2 (List.mem_of_getElem? (i := 109) rfl), lw_t2 (List.mem_of_getElem? (i := 110) rfl)⟩
theorem lw_p4 : lw_okq (⟨"LentYouths", "isSign", "([II)Z"⟩, 26) := ⟨⟨by decide +kernel, by decide +kernel⟩, lw_t1 (List.mem_of_getElem? (i := 27) rfl), lw_t2 (List.mem_of_getElem? (i := 113) rfl), lw_t2 (List.mem_of_getElem? (i := 114) rfl)⟩
theorem lw_p5 : lw_okq (⟨"LentYouths", "readPerson", "([I)Z"⟩, 26) := ⟨⟨by decide +kernel, by decide +kernel⟩, lw_t1 (List.mem_of_getElem? (i := 27) rfl), lw_t2 (List.mem_of_getElem? (i := 117) rfl), lw_t2 (List.mem_of_getElem? (i := 118) rfl)⟩
theorem lw_p6 : lw_okq (⟨"LentYouths", "readSet", "([I)I"⟩, 26) := ⟨⟨by decide +kernel, by decide +kernel⟩, lw_t1 (List.mem_of_getElem? (i := 27) rfl), lw_t2 (List.mem_of_getElem? (i := 121) rfl), lw_t2 (List.mem_of_getElem? (i := 122) rfl)⟩
theorem lw_p7 : lw_okq (⟨"LentYouths", "digit", "([III)I"⟩, 26) := ⟨⟨by decide +kernel, by decide +kernel⟩, lw_t1 (List.mem_of_getElem? (i := 27) rfl), lw_t2 (List.mem_of_getElem? (i := 125) rfl), lw_t2 (List.mem_of_getElem? (i := 126) rfl)⟩
theorem lw_p8 : lw_okq (⟨"LentYouths", "newChildhood", "(I)LLentYouths$Childhood;"⟩, 26) := ⟨⟨by decide +kernel, by decide +kernel⟩, lw_t1 (List.mem_of_getElem? (i := 27) rfl), lw_t2 (List.mem_of_getElem? (i := 140) rfl), lw_t2 (List.mem_of_getElem? (i := 141) rfl)⟩
theorem lw_p9 : lw_okq (⟨"java/util/ArrayList", "add", "(Ljava/lang/Object;[Ljava/lang/Object;I)V"⟩, 3) := ⟨⟨by decide +kernel, by decide +kernel⟩, lw_t1 (List.mem_of_getElem? (i := 35) rfl), lw_t2 (List.mem_of_getElem? (i := 221) rfl), lw_t2 (List.mem_of_getElem? (i := 222) rfl)⟩
theorem lw_p10 : lw_okq (⟨"java/util/ArrayList", "grow", "()[Ljava/lang/Object;"⟩, 3) := ⟨⟨by decide +kernel, by decide +kernel⟩, lw_t1 (List.mem_of_getElem? (i := 35) rfl), lw_t2 (List.mem_of_getElem? (i := 225) rfl), lw_t2 (List.mem_of_getElem? (i := 226) rfl)⟩
theorem lw_p11 : lw_okq (⟨"java/util/ArrayList", "grow", "(I)[Ljava/lang/Object;"⟩, 3) := ⟨⟨by decide +kernel, by decide +kernel⟩, lw_t1 (List.mem_of_getElem? (i := 35) rfl), lw_t2 (List.mem_of_getElem? (i := 229) rfl), lw_t2 (List.mem_of_getElem? (i := 230) rfl)⟩
theorem lw_p12 : lw_okq (⟨"LentYouths", "faulty", "(I)I"⟩, 26) := ⟨⟨by decide +kernel, by decide +kernel⟩, lw_t1 (List.mem_of_getElem? (i := 27) rfl), lw_t3 (List.mem_of_getElem? (i := 34) rfl), lw_t3 (List.mem_of_getElem? (i := 35) rfl)⟩
theorem lw_p13 : lw_okq (⟨"LentYouths", "isPerson", "(I)Z"⟩, 26) := ⟨⟨by decide +kernel, by decide +kernel⟩, lw_t1 (List.mem_of_getElem? (i := 27) rfl), lw_t3 (List.mem_of_getElem? (i := 42) rfl), lw_t3 (List.mem_of_getElem? (i := 43) rfl)⟩
theorem lw_p14 : lw_okq (⟨"LentYouths", "people", "()I"⟩, 26) := ⟨⟨by decide +kernel, by decide +kernel⟩, lw_t1 (List.mem_of_getElem? (i := 27) rfl), lw_t3 (List.mem_of_getElem? (i := 46) rfl), lw_t3 (List.mem_of_getElem? (i := 47) rfl)⟩
theorem lw_p15 : lw_okq (⟨"LentYouths", "isCounter", "()Z"⟩, 26) := ⟨⟨by decide +kernel, by decide +kernel⟩, lw_t1 (List.mem_of_getElem? (i := 27) rfl), lw_t3 (List.mem_of_getElem? (i := 125) rfl), lw_t3 (List.mem_of_getElem? (i := 126) rfl)⟩
def lw_privs_1 : List (MethodName × Nat) := [(⟨"java/lang/NullPointerException", "getExtendedNPEMessage", "()Ljava/lang/String;"⟩, 8), (⟨"java/lang/Throwable", "fillInStackTrace", "(I)Ljava/lang/Throwable;"⟩, 6), (⟨"LentYouths", "comesCounter", "([I)I"⟩, 26), (⟨"LentYouths", "readAll", "([I)Z"⟩, 26), (⟨"LentYouths", "isSign", "([II)Z"⟩, 26), (⟨"LentYouths", "readPerson", "([I)Z"⟩, 26), (⟨"LentYouths", "readSet", "([I)I"⟩, 26), (⟨"LentYouths", "digit", "([III)I"⟩, 26), (⟨"LentYouths", "newChildhood", "(I)LLentYouths$Childhood;"⟩, 26), (⟨"java/util/ArrayList", "add", "(Ljava/lang/Object;[Ljava/lang/Object;I)V"⟩, 3), (⟨"java/util/ArrayList", "grow", "()[Ljava/lang/Object;"⟩, 3), (⟨"java/util/ArrayList", "grow", "(I)[Ljava/lang/Object;"⟩, 3), (⟨"LentYouths", "faulty", "(I)I"⟩, 26), (⟨"LentYouths", "isPerson", "(I)Z"⟩, 26), (⟨"LentYouths", "people", "()I"⟩, 26), (⟨"LentYouths", "isCounter", "()Z"⟩, 26)]
theorem lw_r1 : ∀ q ∈ lw_privs_1, lw_okq q := List.forall_mem_cons.mpr ⟨lw_p0, List.forall_mem_cons.mpr ⟨lw_p1, List.forall_mem_cons.mpr ⟨lw_p2, List.forall_mem_cons.mpr ⟨lw_p3, List.forall_mem_cons.mpr ⟨lw_p4, List.forall_mem_cons.mpr ⟨lw_p5, List.forall_mem_cons.mpr ⟨lw_p6, List.forall_mem_cons.mpr ⟨lw_p7, List.forall_mem_cons.mpr ⟨lw_p8, List.forall_mem_cons.mpr ⟨lw_p9, List.forall_mem_cons.mpr ⟨lw_p10, List.forall_mem_cons.mpr ⟨lw_p11, List.forall_mem_cons.mpr ⟨lw_p12, List.forall_mem_cons.mpr ⟨lw_p13, List.forall_mem_cons.mpr ⟨lw_p14, List.forall_mem_cons.mpr ⟨lw_p15, fun _ h => absurd h List.not_mem_nil⟩⟩⟩⟩⟩⟩⟩⟩⟩⟩⟩⟩⟩⟩⟩⟩
theorem lw_p16 : lw_okq (⟨"LentYouths", "lentBy", "([II)I"⟩, 26) := ⟨⟨by decide +kernel, by decide +kernel⟩, lw_t1 (List.mem_of_getElem? (i := 27) rfl), lw_t3 (List.mem_of_getElem? (i := 138) rfl), lw_t3 (List.mem_of_getElem? (i := 139) rfl)⟩
theorem lw_p17 : lw_okq (⟨"LentYouths", "areOthers", "([I)Z"⟩, 26) := ⟨⟨by decide +kernel, by decide +kernel⟩, lw_t1 (List.mem_of_getElem? (i := 27) rfl), lw_t3 (List.mem_of_getElem? (i := 142) rfl), lw_t3 (List.mem_of_getElem? (i := 143) rfl)⟩
theorem lw_p18 : lw_okq (⟨"LentYouths", "goAll", "([I)I"⟩, 26) := ⟨⟨by decide +kernel, by decide +kernel⟩, lw_t1 (List.mem_of_getElem? (i := 27) rfl), lw_t3 (List.mem_of_getElem? (i := 146) rfl), lw_t3 (List.mem_of_getElem? (i := 147) rfl)⟩
theorem lw_p19 : lw_okq (⟨"LentYouths", "begin", "()V"⟩, 26) := ⟨⟨by decide +kernel, by decide +kernel⟩, lw_t1 (List.mem_of_getElem? (i := 27) rfl), lw_t3 (List.mem_of_getElem? (i := 150) rfl), lw_t3 (List.mem_of_getElem? (i := 151) rfl)⟩
theorem lw_p20 : lw_okq (⟨"LentYouths", "see", "(I)V"⟩, 26) := ⟨⟨by decide +kernel, by decide +kernel⟩, lw_t1 (List.mem_of_getElem? (i := 27) rfl), lw_t3 (List.mem_of_getElem? (i := 164) rfl), lw_t3 (List.mem_of_getElem? (i := 165) rfl)⟩
theorem lw_p21 : lw_okq (⟨"LentYouths", "mended", "()I"⟩, 26) := ⟨⟨by decide +kernel, by decide +kernel⟩, lw_t1 (List.mem_of_getElem? (i := 27) rfl), lw_t3 (List.mem_of_getElem? (i := 168) rfl), lw_t3 (List.mem_of_getElem? (i := 169) rfl)⟩
theorem lw_p22 : lw_okq (⟨"LentYouths", "isMended", "(I)Z"⟩, 26) := ⟨⟨by decide +kernel, by decide +kernel⟩, lw_t1 (List.mem_of_getElem? (i := 27) rfl), lw_t3 (List.mem_of_getElem? (i := 172) rfl), lw_t3 (List.mem_of_getElem? (i := 173) rfl)⟩
theorem lw_p23 : lw_okq (⟨"LentYouths", "all", "()I"⟩, 26) := ⟨⟨by decide +kernel, by decide +kernel⟩, lw_t1 (List.mem_of_getElem? (i := 27) rfl), lw_t3 (List.mem_of_getElem? (i := 179) rfl), lw_t3 (List.mem_of_getElem? (i := 180) rfl)⟩
theorem lw_p24 : lw_okq (⟨"LentYouths", "mayLend", "(II)Z"⟩, 26) := ⟨⟨by decide +kernel, by decide +kernel⟩, lw_t1 (List.mem_of_getElem? (i := 27) rfl), lw_t3 (List.mem_of_getElem? (i := 183) rfl), lw_t3 (List.mem_of_getElem? (i := 184) rfl)⟩
theorem lw_p25 : lw_okq (⟨"LentYouths", "lend", "(II)V"⟩, 26) := ⟨⟨by decide +kernel, by decide +kernel⟩, lw_t1 (List.mem_of_getElem? (i := 27) rfl), lw_t3 (List.mem_of_getElem? (i := 187) rfl), lw_t3 (List.mem_of_getElem? (i := 188) rfl)⟩
theorem lw_p26 : lw_okq (⟨"LentYouths", "home", "()I"⟩, 26) := ⟨⟨by decide +kernel, by decide +kernel⟩, lw_t1 (List.mem_of_getElem? (i := 27) rfl), lw_t3 (List.mem_of_getElem? (i := 209) rfl), lw_t3 (List.mem_of_getElem? (i := 210) rfl)⟩
theorem lw_p27 : lw_okq (⟨"LentYouths", "ofPeople", "(I)I"⟩, 26) := ⟨⟨by decide +kernel, by decide +kernel⟩, lw_t1 (List.mem_of_getElem? (i := 27) rfl), lw_t3 (List.mem_of_getElem? (i := 213) rfl), lw_t3 (List.mem_of_getElem? (i := 214) rfl)⟩
theorem lw_p28 : lw_okq (⟨"LentYouths", "fewestOf", "(I)I"⟩, 26) := ⟨⟨by decide +kernel, by decide +kernel⟩, lw_t1 (List.mem_of_getElem? (i := 27) rfl), lw_t3 (List.mem_of_getElem? (i := 222) rfl), lw_t3 (List.mem_of_getElem? (i := 223) rfl)⟩
theorem lw_p29 : lw_okq (⟨"LentYouths", "tryFrom", "(II)V"⟩, 26) := ⟨⟨by decide +kernel, by decide +kernel⟩, lw_t1 (List.mem_of_getElem? (i := 27) rfl), lw_t3 (List.mem_of_getElem? (i := 226) rfl), lw_t3 (List.mem_of_getElem? (i := 227) rfl)⟩
theorem lw_p30 : lw_okq (⟨"LentYouths", "goRow", "(I)Z"⟩, 26) := ⟨⟨by decide +kernel, by decide +kernel⟩, lw_t1 (List.mem_of_getElem? (i := 27) rfl), lw_t3 (List.mem_of_getElem? (i := 230) rfl), lw_t3 (List.mem_of_getElem? (i := 231) rfl)⟩
theorem lw_p31 : lw_okq (⟨"LentYouths", "matchFrom", "(III)V"⟩, 26) := ⟨⟨by decide +kernel, by decide +kernel⟩, lw_t1 (List.mem_of_getElem? (i := 27) rfl), lw_t3 (List.mem_of_getElem? (i := 238) rfl), lw_t3 (List.mem_of_getElem? (i := 239) rfl)⟩
def lw_privs_2 : List (MethodName × Nat) := [(⟨"LentYouths", "lentBy", "([II)I"⟩, 26), (⟨"LentYouths", "areOthers", "([I)Z"⟩, 26), (⟨"LentYouths", "goAll", "([I)I"⟩, 26), (⟨"LentYouths", "begin", "()V"⟩, 26), (⟨"LentYouths", "see", "(I)V"⟩, 26), (⟨"LentYouths", "mended", "()I"⟩, 26), (⟨"LentYouths", "isMended", "(I)Z"⟩, 26), (⟨"LentYouths", "all", "()I"⟩, 26), (⟨"LentYouths", "mayLend", "(II)Z"⟩, 26), (⟨"LentYouths", "lend", "(II)V"⟩, 26), (⟨"LentYouths", "home", "()I"⟩, 26), (⟨"LentYouths", "ofPeople", "(I)I"⟩, 26), (⟨"LentYouths", "fewestOf", "(I)I"⟩, 26), (⟨"LentYouths", "tryFrom", "(II)V"⟩, 26), (⟨"LentYouths", "goRow", "(I)Z"⟩, 26), (⟨"LentYouths", "matchFrom", "(III)V"⟩, 26)]
theorem lw_r2 : ∀ q ∈ lw_privs_2, lw_okq q := List.forall_mem_cons.mpr ⟨lw_p16, List.forall_mem_cons.mpr ⟨lw_p17, List.forall_mem_cons.mpr ⟨lw_p18, List.forall_mem_cons.mpr ⟨lw_p19, List.forall_mem_cons.mpr ⟨lw_p20, List.forall_mem_cons.mpr ⟨lw_p21, List.forall_mem_cons.mpr ⟨lw_p22, List.forall_mem_cons.mpr ⟨lw_p23, List.forall_mem_cons.mpr ⟨lw_p24, List.forall_mem_cons.mpr ⟨lw_p25, List.forall_mem_cons.mpr ⟨lw_p26, List.forall_mem_cons.mpr ⟨lw_p27, List.forall_mem_cons.mpr ⟨lw_p28, List.forall_mem_cons.mpr ⟨lw_p29, List.forall_mem_cons.mpr ⟨lw_p30, List.forall_mem_cons.mpr ⟨lw_p31, fun _ h => absurd h List.not_mem_nil⟩⟩⟩⟩⟩⟩⟩⟩⟩⟩⟩⟩⟩⟩⟩⟩
theorem lw_p32 : lw_okq (⟨"LentYouths", "isMendedBy", "(II)Z"⟩, 26) := ⟨⟨by decide +kernel, by decide +kernel⟩, lw_t1 (List.mem_of_getElem? (i := 27) rfl), lw_t4 (List.mem_of_getElem? (i := 3) rfl), lw_t4 (List.mem_of_getElem? (i := 4) rfl)⟩
theorem lw_p33 : lw_okq (⟨"LentYouths", "asked", "(IIIIIII)I"⟩, 26) := ⟨⟨by decide +kernel, by decide +kernel⟩, lw_t1 (List.mem_of_getElem? (i := 27) rfl), lw_t4 (List.mem_of_getElem? (i := 27) rfl), lw_t4 (List.mem_of_getElem? (i := 28) rfl)⟩
theorem lw_p34 : lw_okq (⟨"LentYouths", "scenesOf", "(LLentYouths$Childhood;[II)I"⟩, 26) := ⟨⟨by decide +kernel, by decide +kernel⟩, lw_t1 (List.mem_of_getElem? (i := 27) rfl), lw_t4 (List.mem_of_getElem? (i := 31) rfl), lw_t4 (List.mem_of_getElem? (i := 32) rfl)⟩
theorem lw_p35 : lw_okq (⟨"LentYouths", "areSo", "([I)Z"⟩, 26) := ⟨⟨by decide +kernel, by decide +kernel⟩, lw_t1 (List.mem_of_getElem? (i := 27) rfl), lw_t4 (List.mem_of_getElem? (i := 35) rfl), lw_t4 (List.mem_of_getElem? (i := 36) rfl)⟩
theorem lw_p36 : lw_okq (⟨"LentYouths", "kindsOf", "(LLentYouths$Childhood;[I)I"⟩, 26) := ⟨⟨by decide +kernel, by decide +kernel⟩, lw_t1 (List.mem_of_getElem? (i := 27) rfl), lw_t4 (List.mem_of_getElem? (i := 39) rfl), lw_t4 (List.mem_of_getElem? (i := 40) rfl)⟩
theorem lw_p37 : lw_okq (⟨"LentYouths", "wearsOf", "(LLentYouths$Childhood;[I)I"⟩, 26) := ⟨⟨by decide +kernel, by decide +kernel⟩, lw_t1 (List.mem_of_getElem? (i := 27) rfl), lw_t4 (List.mem_of_getElem? (i := 43) rfl), lw_t4 (List.mem_of_getElem? (i := 44) rfl)⟩
theorem lw_p38 : lw_okq (⟨"LentYouths", "oddsOf", "(I[II)J"⟩, 26) := ⟨⟨by decide +kernel, by decide +kernel⟩, lw_t1 (List.mem_of_getElem? (i := 27) rfl), lw_t4 (List.mem_of_getElem? (i := 60) rfl), lw_t4 (List.mem_of_getElem? (i := 61) rfl)⟩
theorem lw_p39 : lw_okq (⟨"LentYouths", "lost", "(I)J"⟩, 26) := ⟨⟨by decide +kernel, by decide +kernel⟩, lw_t1 (List.mem_of_getElem? (i := 27) rfl), lw_t4 (List.mem_of_getElem? (i := 64) rfl), lw_t4 (List.mem_of_getElem? (i := 65) rfl)⟩
theorem lw_p40 : lw_okq (⟨"LentYouths", "begins", "(I)V"⟩, 26) := ⟨⟨by decide +kernel, by decide +kernel⟩, lw_t1 (List.mem_of_getElem? (i := 27) rfl), lw_t4 (List.mem_of_getElem? (i := 115) rfl), lw_t4 (List.mem_of_getElem? (i := 116) rfl)⟩
theorem lw_p41 : lw_okq (⟨"LentYouthsModel", "refused", "(I)I"⟩, 30) := ⟨⟨by decide +kernel, by decide +kernel⟩, lw_t4 (List.mem_of_getElem? (i := 191) rfl), lw_t5 (List.mem_of_getElem? (i := 59) rfl), lw_t5 (List.mem_of_getElem? (i := 60) rfl)⟩
theorem lw_p42 : lw_okq (⟨"LentYouthsModel", "cellsBarred", "(IIIJ)I"⟩, 30) := ⟨⟨by decide +kernel, by decide +kernel⟩, lw_t4 (List.mem_of_getElem? (i := 191) rfl), lw_t5 (List.mem_of_getElem? (i := 64) rfl), lw_t5 (List.mem_of_getElem? (i := 65) rfl)⟩
theorem lw_p43 : lw_okq (⟨"LentYouthsModel", "failed", "(I)I"⟩, 30) := ⟨⟨by decide +kernel, by decide +kernel⟩, lw_t4 (List.mem_of_getElem? (i := 191) rfl), lw_t5 (List.mem_of_getElem? (i := 68) rfl), lw_t5 (List.mem_of_getElem? (i := 69) rfl)⟩
theorem lw_p44 : lw_okq (⟨"LentYouthsModel", "readsCounter", "(II)Z"⟩, 30) := ⟨⟨by decide +kernel, by decide +kernel⟩, lw_t4 (List.mem_of_getElem? (i := 191) rfl), lw_t5 (List.mem_of_getElem? (i := 75) rfl), lw_t5 (List.mem_of_getElem? (i := 76) rfl)⟩
theorem lw_p45 : lw_okq (⟨"LentYouthsModel", "codeAt", "(II)I"⟩, 30) := ⟨⟨by decide +kernel, by decide +kernel⟩, lw_t4 (List.mem_of_getElem? (i := 191) rfl), lw_t5 (List.mem_of_getElem? (i := 79) rfl), lw_t5 (List.mem_of_getElem? (i := 80) rfl)⟩
theorem lw_p46 : lw_okq (⟨"LentYouthsModel", "readsPerson", "(II)Z"⟩, 30) := ⟨⟨by decide +kernel, by decide +kernel⟩, lw_t4 (List.mem_of_getElem? (i := 191) rfl), lw_t5 (List.mem_of_getElem? (i := 83) rfl), lw_t5 (List.mem_of_getElem? (i := 84) rfl)⟩
theorem lw_p47 : lw_okq (⟨"LentYouthsModel", "figure", "(IIII)I"⟩, 30) := ⟨⟨by decide +kernel, by decide +kernel⟩, lw_t4 (List.mem_of_getElem? (i := 191) rfl), lw_t5 (List.mem_of_getElem? (i := 87) rfl), lw_t5 (List.mem_of_getElem? (i := 88) rfl)⟩
def lw_privs_3 : List (MethodName × Nat) := [(⟨"LentYouths", "isMendedBy", "(II)Z"⟩, 26), (⟨"LentYouths", "asked", "(IIIIIII)I"⟩, 26), (⟨"LentYouths", "scenesOf", "(LLentYouths$Childhood;[II)I"⟩, 26), (⟨"LentYouths", "areSo", "([I)Z"⟩, 26), (⟨"LentYouths", "kindsOf", "(LLentYouths$Childhood;[I)I"⟩, 26), (⟨"LentYouths", "wearsOf", "(LLentYouths$Childhood;[I)I"⟩, 26), (⟨"LentYouths", "oddsOf", "(I[II)J"⟩, 26), (⟨"LentYouths", "lost", "(I)J"⟩, 26), (⟨"LentYouths", "begins", "(I)V"⟩, 26), (⟨"LentYouthsModel", "refused", "(I)I"⟩, 30), (⟨"LentYouthsModel", "cellsBarred", "(IIIJ)I"⟩, 30), (⟨"LentYouthsModel", "failed", "(I)I"⟩, 30), (⟨"LentYouthsModel", "readsCounter", "(II)Z"⟩, 30), (⟨"LentYouthsModel", "codeAt", "(II)I"⟩, 30), (⟨"LentYouthsModel", "readsPerson", "(II)Z"⟩, 30), (⟨"LentYouthsModel", "figure", "(IIII)I"⟩, 30)]
theorem lw_r3 : ∀ q ∈ lw_privs_3, lw_okq q := List.forall_mem_cons.mpr ⟨lw_p32, List.forall_mem_cons.mpr ⟨lw_p33, List.forall_mem_cons.mpr ⟨lw_p34, List.forall_mem_cons.mpr ⟨lw_p35, List.forall_mem_cons.mpr ⟨lw_p36, List.forall_mem_cons.mpr ⟨lw_p37, List.forall_mem_cons.mpr ⟨lw_p38, List.forall_mem_cons.mpr ⟨lw_p39, List.forall_mem_cons.mpr ⟨lw_p40, List.forall_mem_cons.mpr ⟨lw_p41, List.forall_mem_cons.mpr ⟨lw_p42, List.forall_mem_cons.mpr ⟨lw_p43, List.forall_mem_cons.mpr ⟨lw_p44, List.forall_mem_cons.mpr ⟨lw_p45, List.forall_mem_cons.mpr ⟨lw_p46, List.forall_mem_cons.mpr ⟨lw_p47, fun _ h => absurd h List.not_mem_nil⟩⟩⟩⟩⟩⟩⟩⟩⟩⟩⟩⟩⟩⟩⟩⟩
theorem lw_p48 : lw_okq (⟨"LentYouthsModel", "noPerson", "(I)Z"⟩, 30) := ⟨⟨by decide +kernel, by decide +kernel⟩, lw_t4 (List.mem_of_getElem? (i := 191) rfl), lw_t5 (List.mem_of_getElem? (i := 95) rfl), lw_t5 (List.mem_of_getElem? (i := 96) rfl)⟩
theorem lw_p49 : lw_okq (⟨"LentYouthsModel", "lastsOf", "(I)I"⟩, 30) := ⟨⟨by decide +kernel, by decide +kernel⟩, lw_t4 (List.mem_of_getElem? (i := 191) rfl), lw_t5 (List.mem_of_getElem? (i := 99) rfl), lw_t5 (List.mem_of_getElem? (i := 100) rfl)⟩
theorem lw_p50 : lw_okq (⟨"LentYouthsModel", "pairsBarred", "(IIII)I"⟩, 30) := ⟨⟨by decide +kernel, by decide +kernel⟩, lw_t4 (List.mem_of_getElem? (i := 191) rfl), lw_t5 (List.mem_of_getElem? (i := 123) rfl), lw_t5 (List.mem_of_getElem? (i := 124) rfl)⟩
theorem lw_p51 : lw_okq (⟨"LentYouthsModel", "goLoans", "(II)V"⟩, 30) := ⟨⟨by decide +kernel, by decide +kernel⟩, lw_t4 (List.mem_of_getElem? (i := 191) rfl), lw_t5 (List.mem_of_getElem? (i := 127) rfl), lw_t5 (List.mem_of_getElem? (i := 128) rfl)⟩
theorem lw_p52 : lw_okq (⟨"LentYouthsModel", "begin", "()V"⟩, 30) := ⟨⟨by decide +kernel, by decide +kernel⟩, lw_t4 (List.mem_of_getElem? (i := 191) rfl), lw_t5 (List.mem_of_getElem? (i := 131) rfl), lw_t5 (List.mem_of_getElem? (i := 132) rfl)⟩
theorem lw_p53 : lw_okq (⟨"LentYouthsModel", "sees", "(I)V"⟩, 30) := ⟨⟨by decide +kernel, by decide +kernel⟩, lw_t4 (List.mem_of_getElem? (i := 191) rfl), lw_t5 (List.mem_of_getElem? (i := 135) rfl), lw_t5 (List.mem_of_getElem? (i := 136) rfl)⟩
theorem lw_p54 : lw_okq (⟨"LentYouthsModel", "mendedNow", "()I"⟩, 30) := ⟨⟨by decide +kernel, by decide +kernel⟩, lw_t4 (List.mem_of_getElem? (i := 191) rfl), lw_t5 (List.mem_of_getElem? (i := 142) rfl), lw_t5 (List.mem_of_getElem? (i := 143) rfl)⟩
theorem lw_p55 : lw_okq (⟨"LentYouthsModel", "isMended", "(I)Z"⟩, 30) := ⟨⟨by decide +kernel, by decide +kernel⟩, lw_t4 (List.mem_of_getElem? (i := 191) rfl), lw_t5 (List.mem_of_getElem? (i := 146) rfl), lw_t5 (List.mem_of_getElem? (i := 147) rfl)⟩
theorem lw_p56 : lw_okq (⟨"LentYouthsModel", "everybody", "()I"⟩, 30) := ⟨⟨by decide +kernel, by decide +kernel⟩, lw_t4 (List.mem_of_getElem? (i := 191) rfl), lw_t5 (List.mem_of_getElem? (i := 150) rfl), lw_t5 (List.mem_of_getElem? (i := 151) rfl)⟩
theorem lw_p57 : lw_okq (⟨"LentYouthsModel", "canLend", "(II)Z"⟩, 30) := ⟨⟨by decide +kernel, by decide +kernel⟩, lw_t4 (List.mem_of_getElem? (i := 191) rfl), lw_t5 (List.mem_of_getElem? (i := 154) rfl), lw_t5 (List.mem_of_getElem? (i := 155) rfl)⟩
theorem lw_p58 : lw_okq (⟨"LentYouthsModel", "lend", "(II)V"⟩, 30) := ⟨⟨by decide +kernel, by decide +kernel⟩, lw_t4 (List.mem_of_getElem? (i := 191) rfl), lw_t5 (List.mem_of_getElem? (i := 158) rfl), lw_t5 (List.mem_of_getElem? (i := 159) rfl)⟩
theorem lw_p59 : lw_okq (⟨"LentYouthsModel", "wearsOff", "(I)V"⟩, 30) := ⟨⟨by decide +kernel, by decide +kernel⟩, lw_t4 (List.mem_of_getElem? (i := 191) rfl), lw_t5 (List.mem_of_getElem? (i := 162) rfl), lw_t5 (List.mem_of_getElem? (i := 163) rfl)⟩
theorem lw_p60 : lw_okq (⟨"LentYouthsModel", "homeBy", "()I"⟩, 30) := ⟨⟨by decide +kernel, by decide +kernel⟩, lw_t4 (List.mem_of_getElem? (i := 191) rfl), lw_t5 (List.mem_of_getElem? (i := 166) rfl), lw_t5 (List.mem_of_getElem? (i := 167) rfl)⟩
theorem lw_p61 : lw_okq (⟨"LentYouthsModel", "isRow", "(III)Z"⟩, 30) := ⟨⟨by decide +kernel, by decide +kernel⟩, lw_t4 (List.mem_of_getElem? (i := 191) rfl), lw_t5 (List.mem_of_getElem? (i := 175) rfl), lw_t5 (List.mem_of_getElem? (i := 176) rfl)⟩
theorem lw_p62 : lw_okq (⟨"LentYouthsModel", "matchBy", "(I)I"⟩, 30) := ⟨⟨by decide +kernel, by decide +kernel⟩, lw_t4 (List.mem_of_getElem? (i := 191) rfl), lw_t5 (List.mem_of_getElem? (i := 183) rfl), lw_t5 (List.mem_of_getElem? (i := 184) rfl)⟩
theorem lw_p63 : lw_okq (⟨"LentYouthsModel", "seenBarred", "(IIIIIZ)I"⟩, 30) := ⟨⟨by decide +kernel, by decide +kernel⟩, lw_t4 (List.mem_of_getElem? (i := 191) rfl), lw_t5 (List.mem_of_getElem? (i := 204) rfl), lw_t5 (List.mem_of_getElem? (i := 205) rfl)⟩
def lw_privs_4 : List (MethodName × Nat) := [(⟨"LentYouthsModel", "noPerson", "(I)Z"⟩, 30), (⟨"LentYouthsModel", "lastsOf", "(I)I"⟩, 30), (⟨"LentYouthsModel", "pairsBarred", "(IIII)I"⟩, 30), (⟨"LentYouthsModel", "goLoans", "(II)V"⟩, 30), (⟨"LentYouthsModel", "begin", "()V"⟩, 30), (⟨"LentYouthsModel", "sees", "(I)V"⟩, 30), (⟨"LentYouthsModel", "mendedNow", "()I"⟩, 30), (⟨"LentYouthsModel", "isMended", "(I)Z"⟩, 30), (⟨"LentYouthsModel", "everybody", "()I"⟩, 30), (⟨"LentYouthsModel", "canLend", "(II)Z"⟩, 30), (⟨"LentYouthsModel", "lend", "(II)V"⟩, 30), (⟨"LentYouthsModel", "wearsOff", "(I)V"⟩, 30), (⟨"LentYouthsModel", "homeBy", "()I"⟩, 30), (⟨"LentYouthsModel", "isRow", "(III)Z"⟩, 30), (⟨"LentYouthsModel", "matchBy", "(I)I"⟩, 30), (⟨"LentYouthsModel", "seenBarred", "(IIIIIZ)I"⟩, 30)]
theorem lw_r4 : ∀ q ∈ lw_privs_4, lw_okq q := List.forall_mem_cons.mpr ⟨lw_p48, List.forall_mem_cons.mpr ⟨lw_p49, List.forall_mem_cons.mpr ⟨lw_p50, List.forall_mem_cons.mpr ⟨lw_p51, List.forall_mem_cons.mpr ⟨lw_p52, List.forall_mem_cons.mpr ⟨lw_p53, List.forall_mem_cons.mpr ⟨lw_p54, List.forall_mem_cons.mpr ⟨lw_p55, List.forall_mem_cons.mpr ⟨lw_p56, List.forall_mem_cons.mpr ⟨lw_p57, List.forall_mem_cons.mpr ⟨lw_p58, List.forall_mem_cons.mpr ⟨lw_p59, List.forall_mem_cons.mpr ⟨lw_p60, List.forall_mem_cons.mpr ⟨lw_p61, List.forall_mem_cons.mpr ⟨lw_p62, List.forall_mem_cons.mpr ⟨lw_p63, fun _ h => absurd h List.not_mem_nil⟩⟩⟩⟩⟩⟩⟩⟩⟩⟩⟩⟩⟩⟩⟩⟩
theorem lw_p64 : lw_okq (⟨"LentYouthsModel", "areSo", "(II)Z"⟩, 30) := ⟨⟨by decide +kernel, by decide +kernel⟩, lw_t4 (List.mem_of_getElem? (i := 191) rfl), lw_t5 (List.mem_of_getElem? (i := 208) rfl), lw_t5 (List.mem_of_getElem? (i := 209) rfl)⟩
theorem lw_p65 : lw_okq (⟨"LentYouthsModel", "noCell", "(II)I"⟩, 30) := ⟨⟨by decide +kernel, by decide +kernel⟩, lw_t4 (List.mem_of_getElem? (i := 191) rfl), lw_t6 (List.mem_of_getElem? (i := 0) rfl), lw_t6 (List.mem_of_getElem? (i := 1) rfl)⟩
theorem lw_p66 : lw_okq (⟨"LentYouthsModel", "failedLong", "(I)J"⟩, 30) := ⟨⟨by decide +kernel, by decide +kernel⟩, lw_t4 (List.mem_of_getElem? (i := 191) rfl), lw_t6 (List.mem_of_getElem? (i := 8) rfl), lw_t6 (List.mem_of_getElem? (i := 9) rfl)⟩
theorem lw_p67 : lw_okq (⟨"LentYouthsModel", "traced", "(I)V"⟩, 30) := ⟨⟨by decide +kernel, by decide +kernel⟩, lw_t4 (List.mem_of_getElem? (i := 191) rfl), lw_t6 (List.mem_of_getElem? (i := 20) rfl), lw_t6 (List.mem_of_getElem? (i := 21) rfl)⟩
def lw_privs_5 : List (MethodName × Nat) := [(⟨"LentYouthsModel", "areSo", "(II)Z"⟩, 30), (⟨"LentYouthsModel", "noCell", "(II)I"⟩, 30), (⟨"LentYouthsModel", "failedLong", "(I)J"⟩, 30), (⟨"LentYouthsModel", "traced", "(I)V"⟩, 30)]
theorem lw_r5 : ∀ q ∈ lw_privs_5, lw_okq q := List.forall_mem_cons.mpr ⟨lw_p64, List.forall_mem_cons.mpr ⟨lw_p65, List.forall_mem_cons.mpr ⟨lw_p66, List.forall_mem_cons.mpr ⟨lw_p67, fun _ h => absurd h List.not_mem_nil⟩⟩⟩⟩
def lw_privs : List (MethodName × Nat) := lw_privs_1 ++ (lw_privs_2 ++ (lw_privs_3 ++ (lw_privs_4 ++ (lw_privs_5))))
def lw_tbl : List Cond := k2_sels lw_privs ++ tables_1
theorem lw_privs_ok : ∀ q ∈ lw_privs, lw_okq q := by
  show ∀ q ∈ lw_privs_1 ++ (lw_privs_2 ++ (lw_privs_3 ++ (lw_privs_4 ++ (lw_privs_5)))), lw_okq q
  exact List.forall_mem_append.mpr ⟨lw_r1, List.forall_mem_append.mpr ⟨lw_r2, List.forall_mem_append.mpr ⟨lw_r3, List.forall_mem_append.mpr ⟨lw_r4, lw_r5⟩⟩⟩⟩
-- ===== ONE list of words for every method: the tables' words that hold all through a run =====
def lw_all : List Cond := lw_tbl.filter goodWord
/-- a word of the tables by its place: claim/WORDS.tsv -/
theorem lw_w {w : Cond} (i : Nat) (h : lw_tbl[i]? = some w) (g : goodWord w = true) : w ∈ lw_all := List.mem_filter.mpr ⟨List.mem_of_getElem? h, g⟩
theorem lw_all_tbl {w : Cond} (h : w ∈ lw_all) : w ∈ lw_tbl := (List.mem_filter.mp h).1
theorem lw_self : GoodIn lw_all lw_all := fun w h => ⟨h, good_of_word (List.mem_filter.mp h).2⟩
/-- a class's field words, by their places -/
theorem lw_in (ws : List Cond) (ps : List Nat) (hp : ws = ps.filterMap (fun i => lw_tbl[i]?)) (hg : ws.all goodWord = true) : ∀ w ∈ ws, w ∈ lw_all := by
  intro w h
  have h1 := List.all_eq_true.mp hg w h
  rw [hp] at h
  obtain ⟨i, -, hi⟩ := List.mem_filterMap.mp h
  exact lw_w i hi h1
/-- the words of a contract for the method y with code b, L locals, answer r -/
abbrev ws_ (y : MethodName) (b : ByteArray) (L : Nat) (r : Option FieldType) : List Cond := Cond.code y b L r :: lw_all
theorem lw_meth {y : MethodName} {b : ByteArray} {L : Nat} {r : Option FieldType} (h : Cond.code y b L r ∈ lw_all) : GoodIn lw_all (ws_ y b L r) := by
  intro w hw
  rcases List.mem_cons.mp hw with e | e
  · rw [e]
    exact lw_self _ h
  · exact lw_self _ e
theorem lw_app {a c : List Cond} (ha : ∀ w ∈ a, w ∈ lw_all) (hc : GoodIn lw_all c) : GoodIn lw_all (a ++ c) := by
  intro w hw
  rcases List.mem_append.mp hw with e | e
  · exact lw_self w (ha w e)
  · exact hc w e
/-- what a call through an object asks: cwV n hts (lw_V ..) -/
theorem lw_V {own : String} {idx : Nat} {C : String} {y : MethodName} {b : ByteArray} {L : Nat} {r : Option FieldType} (h1 : Cond.methodLink own idx y ∈ lw_all) (h2 : Cond.instanceMethod y ∈ lw_all) (h3 : Cond.selects C y y ∈ lw_all) (h4 : Cond.initialized C ∈ lw_all) (h5 : Cond.code y b L r ∈ lw_all) : GoodIn lw_all (wsV own idx C y (ws_ y b L r)) := by
  refine lw_app ?_ (lw_meth h5)
  intro w hw
  simp only [List.mem_cons, List.not_mem_nil, or_false] at hw
  rcases hw with e | e | e | e
  · rw [e]; exact h1
  · rw [e]; exact h2
  · rw [e]; exact h3
  · rw [e]; exact h4
/-- what a static call asks: va_cwS n hts (lw_S ..) -/
theorem lw_S {own : String} {idx : Nat} {y : MethodName} {b : ByteArray} {L : Nat} {r : Option FieldType} (h1 : Cond.methodLink own idx y ∈ lw_all) (h2 : Cond.static y ∈ lw_all) (h3 : Cond.initialized y.cls ∈ lw_all) (h4 : Cond.code y b L r ∈ lw_all) : GoodIn lw_all (va_wsS own idx y (ws_ y b L r)) := by
  refine lw_app ?_ (lw_meth h4)
  intro w hw
  simp only [List.mem_cons, List.not_mem_nil, or_false] at hw
  rcases hw with e | e | e
  · rw [e]; exact h1
  · rw [e]; exact h2
  · rw [e]; exact h3
/-- the words of a contract for a method WITH HANDLERS (hh: its table) -/
abbrev wsW_ (y : MethodName) (b : ByteArray) (L : Nat) (r : Option FieldType) (hh : List (Nat × Nat × Nat × Nat)) : List Cond := Cond.codeWith y b L r hh :: lw_all
theorem lw_methW {y : MethodName} {b : ByteArray} {L : Nat} {r : Option FieldType} {hh : List (Nat × Nat × Nat × Nat)} (h : Cond.codeWith y b L r hh ∈ lw_all) : GoodIn lw_all (wsW_ y b L r hh) := by
  intro w hw
  rcases List.mem_cons.mp hw with e | e
  · rw [e]
    exact lw_self _ h
  · exact lw_self _ e
/-- any list of words by their places (lw_in), good -/
theorem lw_good {ws : List Cond} (h : ∀ w ∈ ws, w ∈ lw_all) : GoodIn lw_all ws := fun w hw => lw_self w (h w hw)
/-- what a call of a method with handlers asks: vx_cwVW n hts (lw_VW ..), vx_cwSW n hts (lw_SW ..) -/
theorem lw_VW {own : String} {idx : Nat} {C : String} {y : MethodName} {b : ByteArray} {L : Nat} {r : Option FieldType} {hh : List (Nat × Nat × Nat × Nat)} (h1 : Cond.methodLink own idx y ∈ lw_all) (h2 : Cond.instanceMethod y ∈ lw_all) (h3 : Cond.selects C y y ∈ lw_all) (h4 : Cond.initialized C ∈ lw_all) (h5 : Cond.codeWith y b L r hh ∈ lw_all) : GoodIn lw_all (wsV own idx C y (wsW_ y b L r hh)) := by
  refine lw_app ?_ (lw_methW h5)
  intro w hw
  simp only [List.mem_cons, List.not_mem_nil, or_false] at hw
  rcases hw with e | e | e | e
  · rw [e]; exact h1
  · rw [e]; exact h2
  · rw [e]; exact h3
  · rw [e]; exact h4
theorem lw_SW {own : String} {idx : Nat} {y : MethodName} {b : ByteArray} {L : Nat} {r : Option FieldType} {hh : List (Nat × Nat × Nat × Nat)} (h1 : Cond.methodLink own idx y ∈ lw_all) (h2 : Cond.static y ∈ lw_all) (h3 : Cond.initialized y.cls ∈ lw_all) (h4 : Cond.codeWith y b L r hh ∈ lw_all) : GoodIn lw_all (va_wsS own idx y (wsW_ y b L r hh)) := by
  refine lw_app ?_ (lw_methW h4)
  intro w hw
  simp only [List.mem_cons, List.not_mem_nil, or_false] at hw
  rcases hw with e | e | e
  · rw [e]; exact h1
  · rw [e]; exact h2
  · rw [e]; exact h3
/-- a word by its place in its run of the tables -/
theorem lw_at {r : List Cond} (hr : ∀ w ∈ r, w ∈ lw_tbl) {w : Cond} (i : Nat) (h : r[i]? = some w) : w ∈ lw_tbl := hr w (List.mem_of_getElem? h)
theorem lw_g {w : Cond} (h : w ∈ lw_tbl) (g : goodWord w = true) : w ∈ lw_all := List.mem_filter.mpr ⟨h, g⟩
theorem lw_ms : ∀ w ∈ k2_sels lw_privs, w ∈ lw_tbl := fun w h => show w ∈ k2_sels lw_privs ++ tables_1 from List.mem_append_left _ h
theorem lw_m1 : ∀ w ∈ tables_1_1, w ∈ lw_tbl := fun w h => show w ∈ k2_sels lw_privs ++ tables_1 from List.mem_append_right (k2_sels lw_privs) (show w ∈ tables_1 from List.mem_append_left _ h)
theorem lw_m2 : ∀ w ∈ tables_1_2, w ∈ lw_tbl := fun w h => show w ∈ k2_sels lw_privs ++ tables_1 from List.mem_append_right (k2_sels lw_privs) (show w ∈ tables_1 from List.mem_append_right _ (List.mem_append_left _ h))
theorem lw_m3 : ∀ w ∈ tables_1_3, w ∈ lw_tbl := fun w h => show w ∈ k2_sels lw_privs ++ tables_1 from List.mem_append_right (k2_sels lw_privs) (show w ∈ tables_1 from List.mem_append_right _ (List.mem_append_right _ (List.mem_append_left _ h)))
theorem lw_m4 : ∀ w ∈ tables_1_4, w ∈ lw_tbl := fun w h => show w ∈ k2_sels lw_privs ++ tables_1 from List.mem_append_right (k2_sels lw_privs) (show w ∈ tables_1 from List.mem_append_right _ (List.mem_append_right _ (List.mem_append_right _ (List.mem_append_left _ h))))
theorem lw_m5 : ∀ w ∈ tables_1_5, w ∈ lw_tbl := fun w h => show w ∈ k2_sels lw_privs ++ tables_1 from List.mem_append_right (k2_sels lw_privs) (show w ∈ tables_1 from List.mem_append_right _ (List.mem_append_right _ (List.mem_append_right _ (List.mem_append_right _ (List.mem_append_left _ h)))))
theorem lw_m6 : ∀ w ∈ tables_1_6, w ∈ lw_tbl := fun w h => show w ∈ k2_sels lw_privs ++ tables_1 from List.mem_append_right (k2_sels lw_privs) (show w ∈ tables_1 from List.mem_append_right _ (List.mem_append_right _ (List.mem_append_right _ (List.mem_append_right _ (List.mem_append_right _ h)))))
theorem qs0 : (Cond.selects "java/lang/NullPointerException" ⟨"java/lang/NullPointerException", "getExtendedNPEMessage", "()Ljava/lang/String;"⟩ ⟨"java/lang/NullPointerException", "getExtendedNPEMessage", "()Ljava/lang/String;"⟩) ∈ lw_all := lw_g (lw_at lw_ms 0 rfl) rfl
theorem qs1 : (Cond.selects "java/lang/Throwable" ⟨"java/lang/Throwable", "fillInStackTrace", "(I)Ljava/lang/Throwable;"⟩ ⟨"java/lang/Throwable", "fillInStackTrace", "(I)Ljava/lang/Throwable;"⟩) ∈ lw_all := lw_g (lw_at lw_ms 1 rfl) rfl
theorem qs2 : (Cond.selects "LentYouths" ⟨"LentYouths", "comesCounter", "([I)I"⟩ ⟨"LentYouths", "comesCounter", "([I)I"⟩) ∈ lw_all := lw_g (lw_at lw_ms 2 rfl) rfl
theorem qs3 : (Cond.selects "LentYouths" ⟨"LentYouths", "readAll", "([I)Z"⟩ ⟨"LentYouths", "readAll", "([I)Z"⟩) ∈ lw_all := lw_g (lw_at lw_ms 3 rfl) rfl
theorem qs4 : (Cond.selects "LentYouths" ⟨"LentYouths", "isSign", "([II)Z"⟩ ⟨"LentYouths", "isSign", "([II)Z"⟩) ∈ lw_all := lw_g (lw_at lw_ms 4 rfl) rfl
theorem qs5 : (Cond.selects "LentYouths" ⟨"LentYouths", "readPerson", "([I)Z"⟩ ⟨"LentYouths", "readPerson", "([I)Z"⟩) ∈ lw_all := lw_g (lw_at lw_ms 5 rfl) rfl
theorem qs6 : (Cond.selects "LentYouths" ⟨"LentYouths", "readSet", "([I)I"⟩ ⟨"LentYouths", "readSet", "([I)I"⟩) ∈ lw_all := lw_g (lw_at lw_ms 6 rfl) rfl
theorem qs7 : (Cond.selects "LentYouths" ⟨"LentYouths", "digit", "([III)I"⟩ ⟨"LentYouths", "digit", "([III)I"⟩) ∈ lw_all := lw_g (lw_at lw_ms 7 rfl) rfl
theorem qs8 : (Cond.selects "LentYouths" ⟨"LentYouths", "newChildhood", "(I)LLentYouths$Childhood;"⟩ ⟨"LentYouths", "newChildhood", "(I)LLentYouths$Childhood;"⟩) ∈ lw_all := lw_g (lw_at lw_ms 8 rfl) rfl
theorem qs9 : (Cond.selects "java/util/ArrayList" ⟨"java/util/ArrayList", "add", "(Ljava/lang/Object;[Ljava/lang/Object;I)V"⟩ ⟨"java/util/ArrayList", "add", "(Ljava/lang/Object;[Ljava/lang/Object;I)V"⟩) ∈ lw_all := lw_g (lw_at lw_ms 9 rfl) rfl
theorem qs10 : (Cond.selects "java/util/ArrayList" ⟨"java/util/ArrayList", "grow", "()[Ljava/lang/Object;"⟩ ⟨"java/util/ArrayList", "grow", "()[Ljava/lang/Object;"⟩) ∈ lw_all := lw_g (lw_at lw_ms 10 rfl) rfl
theorem qs11 : (Cond.selects "java/util/ArrayList" ⟨"java/util/ArrayList", "grow", "(I)[Ljava/lang/Object;"⟩ ⟨"java/util/ArrayList", "grow", "(I)[Ljava/lang/Object;"⟩) ∈ lw_all := lw_g (lw_at lw_ms 11 rfl) rfl
theorem qs12 : (Cond.selects "LentYouths" ⟨"LentYouths", "faulty", "(I)I"⟩ ⟨"LentYouths", "faulty", "(I)I"⟩) ∈ lw_all := lw_g (lw_at lw_ms 12 rfl) rfl
theorem qs13 : (Cond.selects "LentYouths" ⟨"LentYouths", "isPerson", "(I)Z"⟩ ⟨"LentYouths", "isPerson", "(I)Z"⟩) ∈ lw_all := lw_g (lw_at lw_ms 13 rfl) rfl
theorem qs14 : (Cond.selects "LentYouths" ⟨"LentYouths", "people", "()I"⟩ ⟨"LentYouths", "people", "()I"⟩) ∈ lw_all := lw_g (lw_at lw_ms 14 rfl) rfl
theorem qs15 : (Cond.selects "LentYouths" ⟨"LentYouths", "isCounter", "()Z"⟩ ⟨"LentYouths", "isCounter", "()Z"⟩) ∈ lw_all := lw_g (lw_at lw_ms 15 rfl) rfl
theorem qs16 : (Cond.selects "LentYouths" ⟨"LentYouths", "lentBy", "([II)I"⟩ ⟨"LentYouths", "lentBy", "([II)I"⟩) ∈ lw_all := lw_g (lw_at lw_ms 16 rfl) rfl
theorem qs17 : (Cond.selects "LentYouths" ⟨"LentYouths", "areOthers", "([I)Z"⟩ ⟨"LentYouths", "areOthers", "([I)Z"⟩) ∈ lw_all := lw_g (lw_at lw_ms 17 rfl) rfl
theorem qs18 : (Cond.selects "LentYouths" ⟨"LentYouths", "goAll", "([I)I"⟩ ⟨"LentYouths", "goAll", "([I)I"⟩) ∈ lw_all := lw_g (lw_at lw_ms 18 rfl) rfl
theorem qs19 : (Cond.selects "LentYouths" ⟨"LentYouths", "begin", "()V"⟩ ⟨"LentYouths", "begin", "()V"⟩) ∈ lw_all := lw_g (lw_at lw_ms 19 rfl) rfl
theorem qs20 : (Cond.selects "LentYouths" ⟨"LentYouths", "see", "(I)V"⟩ ⟨"LentYouths", "see", "(I)V"⟩) ∈ lw_all := lw_g (lw_at lw_ms 20 rfl) rfl
theorem qs21 : (Cond.selects "LentYouths" ⟨"LentYouths", "mended", "()I"⟩ ⟨"LentYouths", "mended", "()I"⟩) ∈ lw_all := lw_g (lw_at lw_ms 21 rfl) rfl
theorem qs22 : (Cond.selects "LentYouths" ⟨"LentYouths", "isMended", "(I)Z"⟩ ⟨"LentYouths", "isMended", "(I)Z"⟩) ∈ lw_all := lw_g (lw_at lw_ms 22 rfl) rfl
theorem qs23 : (Cond.selects "LentYouths" ⟨"LentYouths", "all", "()I"⟩ ⟨"LentYouths", "all", "()I"⟩) ∈ lw_all := lw_g (lw_at lw_ms 23 rfl) rfl
theorem qs24 : (Cond.selects "LentYouths" ⟨"LentYouths", "mayLend", "(II)Z"⟩ ⟨"LentYouths", "mayLend", "(II)Z"⟩) ∈ lw_all := lw_g (lw_at lw_ms 24 rfl) rfl
theorem qs25 : (Cond.selects "LentYouths" ⟨"LentYouths", "lend", "(II)V"⟩ ⟨"LentYouths", "lend", "(II)V"⟩) ∈ lw_all := lw_g (lw_at lw_ms 25 rfl) rfl
theorem qs26 : (Cond.selects "LentYouths" ⟨"LentYouths", "home", "()I"⟩ ⟨"LentYouths", "home", "()I"⟩) ∈ lw_all := lw_g (lw_at lw_ms 26 rfl) rfl
theorem qs27 : (Cond.selects "LentYouths" ⟨"LentYouths", "ofPeople", "(I)I"⟩ ⟨"LentYouths", "ofPeople", "(I)I"⟩) ∈ lw_all := lw_g (lw_at lw_ms 27 rfl) rfl
theorem qs28 : (Cond.selects "LentYouths" ⟨"LentYouths", "fewestOf", "(I)I"⟩ ⟨"LentYouths", "fewestOf", "(I)I"⟩) ∈ lw_all := lw_g (lw_at lw_ms 28 rfl) rfl
theorem qs29 : (Cond.selects "LentYouths" ⟨"LentYouths", "tryFrom", "(II)V"⟩ ⟨"LentYouths", "tryFrom", "(II)V"⟩) ∈ lw_all := lw_g (lw_at lw_ms 29 rfl) rfl
theorem qs30 : (Cond.selects "LentYouths" ⟨"LentYouths", "goRow", "(I)Z"⟩ ⟨"LentYouths", "goRow", "(I)Z"⟩) ∈ lw_all := lw_g (lw_at lw_ms 30 rfl) rfl
theorem qs31 : (Cond.selects "LentYouths" ⟨"LentYouths", "matchFrom", "(III)V"⟩ ⟨"LentYouths", "matchFrom", "(III)V"⟩) ∈ lw_all := lw_g (lw_at lw_ms 31 rfl) rfl
theorem qs32 : (Cond.selects "LentYouths" ⟨"LentYouths", "isMendedBy", "(II)Z"⟩ ⟨"LentYouths", "isMendedBy", "(II)Z"⟩) ∈ lw_all := lw_g (lw_at lw_ms 32 rfl) rfl
theorem qs33 : (Cond.selects "LentYouths" ⟨"LentYouths", "asked", "(IIIIIII)I"⟩ ⟨"LentYouths", "asked", "(IIIIIII)I"⟩) ∈ lw_all := lw_g (lw_at lw_ms 33 rfl) rfl
theorem qs34 : (Cond.selects "LentYouths" ⟨"LentYouths", "scenesOf", "(LLentYouths$Childhood;[II)I"⟩ ⟨"LentYouths", "scenesOf", "(LLentYouths$Childhood;[II)I"⟩) ∈ lw_all := lw_g (lw_at lw_ms 34 rfl) rfl
theorem qs35 : (Cond.selects "LentYouths" ⟨"LentYouths", "areSo", "([I)Z"⟩ ⟨"LentYouths", "areSo", "([I)Z"⟩) ∈ lw_all := lw_g (lw_at lw_ms 35 rfl) rfl
theorem qs36 : (Cond.selects "LentYouths" ⟨"LentYouths", "kindsOf", "(LLentYouths$Childhood;[I)I"⟩ ⟨"LentYouths", "kindsOf", "(LLentYouths$Childhood;[I)I"⟩) ∈ lw_all := lw_g (lw_at lw_ms 36 rfl) rfl
theorem qs37 : (Cond.selects "LentYouths" ⟨"LentYouths", "wearsOf", "(LLentYouths$Childhood;[I)I"⟩ ⟨"LentYouths", "wearsOf", "(LLentYouths$Childhood;[I)I"⟩) ∈ lw_all := lw_g (lw_at lw_ms 37 rfl) rfl
theorem qs38 : (Cond.selects "LentYouths" ⟨"LentYouths", "oddsOf", "(I[II)J"⟩ ⟨"LentYouths", "oddsOf", "(I[II)J"⟩) ∈ lw_all := lw_g (lw_at lw_ms 38 rfl) rfl
theorem qs39 : (Cond.selects "LentYouths" ⟨"LentYouths", "lost", "(I)J"⟩ ⟨"LentYouths", "lost", "(I)J"⟩) ∈ lw_all := lw_g (lw_at lw_ms 39 rfl) rfl
theorem qs40 : (Cond.selects "LentYouths" ⟨"LentYouths", "begins", "(I)V"⟩ ⟨"LentYouths", "begins", "(I)V"⟩) ∈ lw_all := lw_g (lw_at lw_ms 40 rfl) rfl
theorem qs41 : (Cond.selects "LentYouthsModel" ⟨"LentYouthsModel", "refused", "(I)I"⟩ ⟨"LentYouthsModel", "refused", "(I)I"⟩) ∈ lw_all := lw_g (lw_at lw_ms 41 rfl) rfl
theorem qs42 : (Cond.selects "LentYouthsModel" ⟨"LentYouthsModel", "cellsBarred", "(IIIJ)I"⟩ ⟨"LentYouthsModel", "cellsBarred", "(IIIJ)I"⟩) ∈ lw_all := lw_g (lw_at lw_ms 42 rfl) rfl
theorem qs43 : (Cond.selects "LentYouthsModel" ⟨"LentYouthsModel", "failed", "(I)I"⟩ ⟨"LentYouthsModel", "failed", "(I)I"⟩) ∈ lw_all := lw_g (lw_at lw_ms 43 rfl) rfl
theorem qs44 : (Cond.selects "LentYouthsModel" ⟨"LentYouthsModel", "readsCounter", "(II)Z"⟩ ⟨"LentYouthsModel", "readsCounter", "(II)Z"⟩) ∈ lw_all := lw_g (lw_at lw_ms 44 rfl) rfl
theorem qs45 : (Cond.selects "LentYouthsModel" ⟨"LentYouthsModel", "codeAt", "(II)I"⟩ ⟨"LentYouthsModel", "codeAt", "(II)I"⟩) ∈ lw_all := lw_g (lw_at lw_ms 45 rfl) rfl
theorem qs46 : (Cond.selects "LentYouthsModel" ⟨"LentYouthsModel", "readsPerson", "(II)Z"⟩ ⟨"LentYouthsModel", "readsPerson", "(II)Z"⟩) ∈ lw_all := lw_g (lw_at lw_ms 46 rfl) rfl
theorem qs47 : (Cond.selects "LentYouthsModel" ⟨"LentYouthsModel", "figure", "(IIII)I"⟩ ⟨"LentYouthsModel", "figure", "(IIII)I"⟩) ∈ lw_all := lw_g (lw_at lw_ms 47 rfl) rfl
theorem qs48 : (Cond.selects "LentYouthsModel" ⟨"LentYouthsModel", "noPerson", "(I)Z"⟩ ⟨"LentYouthsModel", "noPerson", "(I)Z"⟩) ∈ lw_all := lw_g (lw_at lw_ms 48 rfl) rfl
theorem qs49 : (Cond.selects "LentYouthsModel" ⟨"LentYouthsModel", "lastsOf", "(I)I"⟩ ⟨"LentYouthsModel", "lastsOf", "(I)I"⟩) ∈ lw_all := lw_g (lw_at lw_ms 49 rfl) rfl
theorem qs50 : (Cond.selects "LentYouthsModel" ⟨"LentYouthsModel", "pairsBarred", "(IIII)I"⟩ ⟨"LentYouthsModel", "pairsBarred", "(IIII)I"⟩) ∈ lw_all := lw_g (lw_at lw_ms 50 rfl) rfl
theorem qs51 : (Cond.selects "LentYouthsModel" ⟨"LentYouthsModel", "goLoans", "(II)V"⟩ ⟨"LentYouthsModel", "goLoans", "(II)V"⟩) ∈ lw_all := lw_g (lw_at lw_ms 51 rfl) rfl
theorem qs52 : (Cond.selects "LentYouthsModel" ⟨"LentYouthsModel", "begin", "()V"⟩ ⟨"LentYouthsModel", "begin", "()V"⟩) ∈ lw_all := lw_g (lw_at lw_ms 52 rfl) rfl
theorem qs53 : (Cond.selects "LentYouthsModel" ⟨"LentYouthsModel", "sees", "(I)V"⟩ ⟨"LentYouthsModel", "sees", "(I)V"⟩) ∈ lw_all := lw_g (lw_at lw_ms 53 rfl) rfl
theorem qs54 : (Cond.selects "LentYouthsModel" ⟨"LentYouthsModel", "mendedNow", "()I"⟩ ⟨"LentYouthsModel", "mendedNow", "()I"⟩) ∈ lw_all := lw_g (lw_at lw_ms 54 rfl) rfl
theorem qs55 : (Cond.selects "LentYouthsModel" ⟨"LentYouthsModel", "isMended", "(I)Z"⟩ ⟨"LentYouthsModel", "isMended", "(I)Z"⟩) ∈ lw_all := lw_g (lw_at lw_ms 55 rfl) rfl
theorem qs56 : (Cond.selects "LentYouthsModel" ⟨"LentYouthsModel", "everybody", "()I"⟩ ⟨"LentYouthsModel", "everybody", "()I"⟩) ∈ lw_all := lw_g (lw_at lw_ms 56 rfl) rfl
theorem qs57 : (Cond.selects "LentYouthsModel" ⟨"LentYouthsModel", "canLend", "(II)Z"⟩ ⟨"LentYouthsModel", "canLend", "(II)Z"⟩) ∈ lw_all := lw_g (lw_at lw_ms 57 rfl) rfl
theorem qs58 : (Cond.selects "LentYouthsModel" ⟨"LentYouthsModel", "lend", "(II)V"⟩ ⟨"LentYouthsModel", "lend", "(II)V"⟩) ∈ lw_all := lw_g (lw_at lw_ms 58 rfl) rfl
theorem qs59 : (Cond.selects "LentYouthsModel" ⟨"LentYouthsModel", "wearsOff", "(I)V"⟩ ⟨"LentYouthsModel", "wearsOff", "(I)V"⟩) ∈ lw_all := lw_g (lw_at lw_ms 59 rfl) rfl
theorem qs60 : (Cond.selects "LentYouthsModel" ⟨"LentYouthsModel", "homeBy", "()I"⟩ ⟨"LentYouthsModel", "homeBy", "()I"⟩) ∈ lw_all := lw_g (lw_at lw_ms 60 rfl) rfl
theorem qs61 : (Cond.selects "LentYouthsModel" ⟨"LentYouthsModel", "isRow", "(III)Z"⟩ ⟨"LentYouthsModel", "isRow", "(III)Z"⟩) ∈ lw_all := lw_g (lw_at lw_ms 61 rfl) rfl
theorem qs62 : (Cond.selects "LentYouthsModel" ⟨"LentYouthsModel", "matchBy", "(I)I"⟩ ⟨"LentYouthsModel", "matchBy", "(I)I"⟩) ∈ lw_all := lw_g (lw_at lw_ms 62 rfl) rfl
theorem qs63 : (Cond.selects "LentYouthsModel" ⟨"LentYouthsModel", "seenBarred", "(IIIIIZ)I"⟩ ⟨"LentYouthsModel", "seenBarred", "(IIIIIZ)I"⟩) ∈ lw_all := lw_g (lw_at lw_ms 63 rfl) rfl
theorem qs64 : (Cond.selects "LentYouthsModel" ⟨"LentYouthsModel", "areSo", "(II)Z"⟩ ⟨"LentYouthsModel", "areSo", "(II)Z"⟩) ∈ lw_all := lw_g (lw_at lw_ms 64 rfl) rfl
theorem qs65 : (Cond.selects "LentYouthsModel" ⟨"LentYouthsModel", "noCell", "(II)I"⟩ ⟨"LentYouthsModel", "noCell", "(II)I"⟩) ∈ lw_all := lw_g (lw_at lw_ms 65 rfl) rfl
theorem qs66 : (Cond.selects "LentYouthsModel" ⟨"LentYouthsModel", "failedLong", "(I)J"⟩ ⟨"LentYouthsModel", "failedLong", "(I)J"⟩) ∈ lw_all := lw_g (lw_at lw_ms 66 rfl) rfl
theorem qs67 : (Cond.selects "LentYouthsModel" ⟨"LentYouthsModel", "traced", "(I)V"⟩ ⟨"LentYouthsModel", "traced", "(I)V"⟩) ∈ lw_all := lw_g (lw_at lw_ms 67 rfl) rfl
