-- ===== PART A: goes FIRST, ahead of the names: the tables' words, and 'selects' of the private methods out of them =====
/-- a private method of a class that the tables say can be made, by its rows of tables_1 -/
def lw_okq (q : MethodName × Nat) : Prop := (q.1.cls ≠ "java/lang/invoke/MethodHandle" ∧ q.1.cls ≠ "java/lang/invoke/VarHandle") ∧ Cond.instantiable q.1.cls q.2 ∈ tables_1 ∧ Cond.privateMethod q.1 ∈ tables_1 ∧ Cond.instanceMethod q.1 ∈ tables_1
set_option maxRecDepth 100000
theorem lw_t1 {w : Cond} (h : w ∈ tables_1_1) : w ∈ tables_1 := List.mem_append_left _ h
theorem lw_t2 {w : Cond} (h : w ∈ tables_1_2) : w ∈ tables_1 := List.mem_append_right _ (List.mem_append_left _ h)
theorem lw_t3 {w : Cond} (h : w ∈ tables_1_3) : w ∈ tables_1 := List.mem_append_right _ (List.mem_append_right _ (List.mem_append_left _ h))
theorem lw_t4 {w : Cond} (h : w ∈ tables_1_4) : w ∈ tables_1 := List.mem_append_right _ (List.mem_append_right _ (List.mem_append_right _ (List.mem_append_left _ h)))
theorem lw_t5 {w : Cond} (h : w ∈ tables_1_5) : w ∈ tables_1 := List.mem_append_right _ (List.mem_append_right _ (List.mem_append_right _ (List.mem_append_right _ (List.mem_append_left _ h))))
theorem lw_t6 {w : Cond} (h : w ∈ tables_1_6) : w ∈ tables_1 := List.mem_append_right _ (List.mem_append_right _ (List.mem_append_right _ (List.mem_append_right _ (List.mem_append_right _ h))))
theorem lw_p0 : lw_okq (⟨"SmokedLetters$Reader", "next", "()V"⟩, 7) := ⟨⟨by decide +kernel, by decide +kernel⟩, lw_t2 (List.mem_of_getElem? (i := 57) rfl), lw_t2 (List.mem_of_getElem? (i := 91) rfl), lw_t2 (List.mem_of_getElem? (i := 92) rfl)⟩
theorem lw_p1 : lw_okq (⟨"SmokedLetters$Reader", "here", "()I"⟩, 7) := ⟨⟨by decide +kernel, by decide +kernel⟩, lw_t2 (List.mem_of_getElem? (i := 57) rfl), lw_t2 (List.mem_of_getElem? (i := 95) rfl), lw_t2 (List.mem_of_getElem? (i := 96) rfl)⟩
theorem lw_p2 : lw_okq (⟨"SmokedLetters$Reader", "may", "(I)Z"⟩, 7) := ⟨⟨by decide +kernel, by decide +kernel⟩, lw_t2 (List.mem_of_getElem? (i := 57) rfl), lw_t2 (List.mem_of_getElem? (i := 188) rfl), lw_t2 (List.mem_of_getElem? (i := 189) rfl)⟩
theorem lw_p3 : lw_okq (⟨"SmokedLetters$Reader", "due", "(Z)I"⟩, 7) := ⟨⟨by decide +kernel, by decide +kernel⟩, lw_t2 (List.mem_of_getElem? (i := 57) rfl), lw_t2 (List.mem_of_getElem? (i := 192) rfl), lw_t2 (List.mem_of_getElem? (i := 193) rfl)⟩
theorem lw_p4 : lw_okq (⟨"java/lang/Throwable", "fillInStackTrace", "(I)Ljava/lang/Throwable;"⟩, 6) := ⟨⟨by decide +kernel, by decide +kernel⟩, lw_t2 (List.mem_of_getElem? (i := 232) rfl), lw_t2 (List.mem_of_getElem? (i := 230) rfl), lw_t2 (List.mem_of_getElem? (i := 231) rfl)⟩
theorem lw_p5 : lw_okq (⟨"SmokedLetters$Reader", "item", "(I)V"⟩, 7) := ⟨⟨by decide +kernel, by decide +kernel⟩, lw_t2 (List.mem_of_getElem? (i := 57) rfl), lw_t3 (List.mem_of_getElem? (i := 24) rfl), lw_t3 (List.mem_of_getElem? (i := 25) rfl)⟩
theorem lw_p6 : lw_okq (⟨"SmokedLetters$Reader", "number", "(II)I"⟩, 7) := ⟨⟨by decide +kernel, by decide +kernel⟩, lw_t2 (List.mem_of_getElem? (i := 57) rfl), lw_t3 (List.mem_of_getElem? (i := 28) rfl), lw_t3 (List.mem_of_getElem? (i := 29) rfl)⟩
theorem lw_p7 : lw_okq (⟨"SmokedLetters", "isTraveller", "(I)Z"⟩, 20) := ⟨⟨by decide +kernel, by decide +kernel⟩, lw_t1 (List.mem_of_getElem? (i := 26) rfl), lw_t3 (List.mem_of_getElem? (i := 42) rfl), lw_t3 (List.mem_of_getElem? (i := 43) rfl)⟩
theorem lw_p8 : lw_okq (⟨"SmokedLetters", "isClerk", "(I)Z"⟩, 20) := ⟨⟨by decide +kernel, by decide +kernel⟩, lw_t1 (List.mem_of_getElem? (i := 26) rfl), lw_t3 (List.mem_of_getElem? (i := 50) rfl), lw_t3 (List.mem_of_getElem? (i := 51) rfl)⟩
theorem lw_p9 : lw_okq (⟨"SmokedLetters", "isRow", "(I)Z"⟩, 20) := ⟨⟨by decide +kernel, by decide +kernel⟩, lw_t1 (List.mem_of_getElem? (i := 26) rfl), lw_t3 (List.mem_of_getElem? (i := 74) rfl), lw_t3 (List.mem_of_getElem? (i := 75) rfl)⟩
theorem lw_p10 : lw_okq (⟨"SmokedLetters", "know", "()V"⟩, 20) := ⟨⟨by decide +kernel, by decide +kernel⟩, lw_t1 (List.mem_of_getElem? (i := 26) rfl), lw_t3 (List.mem_of_getElem? (i := 78) rfl), lw_t3 (List.mem_of_getElem? (i := 79) rfl)⟩
theorem lw_p11 : lw_okq (⟨"SmokedLetters", "isTravellerOrNone", "(I)Z"⟩, 20) := ⟨⟨by decide +kernel, by decide +kernel⟩, lw_t1 (List.mem_of_getElem? (i := 26) rfl), lw_t3 (List.mem_of_getElem? (i := 129) rfl), lw_t3 (List.mem_of_getElem? (i := 130) rfl)⟩
theorem lw_p12 : lw_okq (⟨"SmokedLetters", "go", "(I)V"⟩, 20) := ⟨⟨by decide +kernel, by decide +kernel⟩, lw_t1 (List.mem_of_getElem? (i := 26) rfl), lw_t3 (List.mem_of_getElem? (i := 133) rfl), lw_t3 (List.mem_of_getElem? (i := 134) rfl)⟩
theorem lw_p13 : lw_okq (⟨"SmokedLetters", "sailedBy", "(I)I"⟩, 20) := ⟨⟨by decide +kernel, by decide +kernel⟩, lw_t1 (List.mem_of_getElem? (i := 26) rfl), lw_t3 (List.mem_of_getElem? (i := 140) rfl), lw_t3 (List.mem_of_getElem? (i := 141) rfl)⟩
theorem lw_p14 : lw_okq (⟨"SmokedLetters", "nextOf", "(I)I"⟩, 20) := ⟨⟨by decide +kernel, by decide +kernel⟩, lw_t1 (List.mem_of_getElem? (i := 26) rfl), lw_t3 (List.mem_of_getElem? (i := 145) rfl), lw_t3 (List.mem_of_getElem? (i := 146) rfl)⟩
theorem lw_p15 : lw_okq (⟨"SmokedLetters", "isPlan", "(I)Z"⟩, 20) := ⟨⟨by decide +kernel, by decide +kernel⟩, lw_t1 (List.mem_of_getElem? (i := 26) rfl), lw_t3 (List.mem_of_getElem? (i := 158) rfl), lw_t3 (List.mem_of_getElem? (i := 159) rfl)⟩
def lw_privs_1 : List (MethodName × Nat) := [(⟨"SmokedLetters$Reader", "next", "()V"⟩, 7), (⟨"SmokedLetters$Reader", "here", "()I"⟩, 7), (⟨"SmokedLetters$Reader", "may", "(I)Z"⟩, 7), (⟨"SmokedLetters$Reader", "due", "(Z)I"⟩, 7), (⟨"java/lang/Throwable", "fillInStackTrace", "(I)Ljava/lang/Throwable;"⟩, 6), (⟨"SmokedLetters$Reader", "item", "(I)V"⟩, 7), (⟨"SmokedLetters$Reader", "number", "(II)I"⟩, 7), (⟨"SmokedLetters", "isTraveller", "(I)Z"⟩, 20), (⟨"SmokedLetters", "isClerk", "(I)Z"⟩, 20), (⟨"SmokedLetters", "isRow", "(I)Z"⟩, 20), (⟨"SmokedLetters", "know", "()V"⟩, 20), (⟨"SmokedLetters", "isTravellerOrNone", "(I)Z"⟩, 20), (⟨"SmokedLetters", "go", "(I)V"⟩, 20), (⟨"SmokedLetters", "sailedBy", "(I)I"⟩, 20), (⟨"SmokedLetters", "nextOf", "(I)I"⟩, 20), (⟨"SmokedLetters", "isPlan", "(I)Z"⟩, 20)]
theorem lw_r1 : ∀ q ∈ lw_privs_1, lw_okq q := List.forall_mem_cons.mpr ⟨lw_p0, List.forall_mem_cons.mpr ⟨lw_p1, List.forall_mem_cons.mpr ⟨lw_p2, List.forall_mem_cons.mpr ⟨lw_p3, List.forall_mem_cons.mpr ⟨lw_p4, List.forall_mem_cons.mpr ⟨lw_p5, List.forall_mem_cons.mpr ⟨lw_p6, List.forall_mem_cons.mpr ⟨lw_p7, List.forall_mem_cons.mpr ⟨lw_p8, List.forall_mem_cons.mpr ⟨lw_p9, List.forall_mem_cons.mpr ⟨lw_p10, List.forall_mem_cons.mpr ⟨lw_p11, List.forall_mem_cons.mpr ⟨lw_p12, List.forall_mem_cons.mpr ⟨lw_p13, List.forall_mem_cons.mpr ⟨lw_p14, List.forall_mem_cons.mpr ⟨lw_p15, fun _ h => absurd h List.not_mem_nil⟩⟩⟩⟩⟩⟩⟩⟩⟩⟩⟩⟩⟩⟩⟩⟩
theorem lw_p16 : lw_okq (⟨"SmokedLetters", "ways", "(II)J"⟩, 20) := ⟨⟨by decide +kernel, by decide +kernel⟩, lw_t1 (List.mem_of_getElem? (i := 26) rfl), lw_t3 (List.mem_of_getElem? (i := 186) rfl), lw_t3 (List.mem_of_getElem? (i := 187) rfl)⟩
theorem lw_p17 : lw_okq (⟨"SmokedLetters", "isPlace", "(I)Z"⟩, 20) := ⟨⟨by decide +kernel, by decide +kernel⟩, lw_t1 (List.mem_of_getElem? (i := 26) rfl), lw_t3 (List.mem_of_getElem? (i := 223) rfl), lw_t3 (List.mem_of_getElem? (i := 224) rfl)⟩
theorem lw_p18 : lw_okq (⟨"SmokedLetters", "stoodAt", "(I)I"⟩, 20) := ⟨⟨by decide +kernel, by decide +kernel⟩, lw_t1 (List.mem_of_getElem? (i := 26) rfl), lw_t3 (List.mem_of_getElem? (i := 227) rfl), lw_t3 (List.mem_of_getElem? (i := 228) rfl)⟩
theorem lw_p19 : lw_okq (⟨"SmokedLetters", "isLetter", "(I)Z"⟩, 20) := ⟨⟨by decide +kernel, by decide +kernel⟩, lw_t1 (List.mem_of_getElem? (i := 26) rfl), lw_t4 (List.mem_of_getElem? (i := 3) rfl), lw_t4 (List.mem_of_getElem? (i := 4) rfl)⟩
theorem lw_p20 : lw_okq (⟨"SmokedLetters", "makes", "([II)Z"⟩, 20) := ⟨⟨by decide +kernel, by decide +kernel⟩, lw_t1 (List.mem_of_getElem? (i := 26) rfl), lw_t4 (List.mem_of_getElem? (i := 7) rfl), lw_t4 (List.mem_of_getElem? (i := 8) rfl)⟩
theorem lw_p21 : lw_okq (⟨"SmokedLetters", "findRow", "(III)Z"⟩, 20) := ⟨⟨by decide +kernel, by decide +kernel⟩, lw_t1 (List.mem_of_getElem? (i := 26) rfl), lw_t4 (List.mem_of_getElem? (i := 15) rfl), lw_t4 (List.mem_of_getElem? (i := 16) rfl)⟩
theorem lw_p22 : lw_okq (⟨"SmokedLettersModel", "next", "()V"⟩, 39) := ⟨⟨by decide +kernel, by decide +kernel⟩, lw_t4 (List.mem_of_getElem? (i := 72) rfl), lw_t4 (List.mem_of_getElem? (i := 212) rfl), lw_t4 (List.mem_of_getElem? (i := 213) rfl)⟩
theorem lw_p23 : lw_okq (⟨"SmokedLettersModel", "letterAt", "(I)I"⟩, 39) := ⟨⟨by decide +kernel, by decide +kernel⟩, lw_t4 (List.mem_of_getElem? (i := 72) rfl), lw_t4 (List.mem_of_getElem? (i := 216) rfl), lw_t4 (List.mem_of_getElem? (i := 217) rfl)⟩
theorem lw_p24 : lw_okq (⟨"SmokedLettersModel", "readItem", "()V"⟩, 39) := ⟨⟨by decide +kernel, by decide +kernel⟩, lw_t4 (List.mem_of_getElem? (i := 72) rfl), lw_t4 (List.mem_of_getElem? (i := 220) rfl), lw_t4 (List.mem_of_getElem? (i := 221) rfl)⟩
theorem lw_p25 : lw_okq (⟨"SmokedLettersModel", "readOne", "(II)V"⟩, 39) := ⟨⟨by decide +kernel, by decide +kernel⟩, lw_t4 (List.mem_of_getElem? (i := 72) rfl), lw_t4 (List.mem_of_getElem? (i := 224) rfl), lw_t4 (List.mem_of_getElem? (i := 225) rfl)⟩
theorem lw_p26 : lw_okq (⟨"SmokedLettersModel", "must", "(Z)V"⟩, 39) := ⟨⟨by decide +kernel, by decide +kernel⟩, lw_t4 (List.mem_of_getElem? (i := 72) rfl), lw_t4 (List.mem_of_getElem? (i := 231) rfl), lw_t4 (List.mem_of_getElem? (i := 232) rfl)⟩
theorem lw_p27 : lw_okq (⟨"SmokedLettersModel", "readInto", "([IIII)I"⟩, 39) := ⟨⟨by decide +kernel, by decide +kernel⟩, lw_t4 (List.mem_of_getElem? (i := 72) rfl), lw_t4 (List.mem_of_getElem? (i := 235) rfl), lw_t4 (List.mem_of_getElem? (i := 236) rfl)⟩
theorem lw_p28 : lw_okq (⟨"SmokedLettersModel", "readTraveller", "()V"⟩, 39) := ⟨⟨by decide +kernel, by decide +kernel⟩, lw_t4 (List.mem_of_getElem? (i := 72) rfl), lw_t4 (List.mem_of_getElem? (i := 239) rfl), lw_t5 (List.mem_of_getElem? (i := 0) rfl)⟩
theorem lw_p29 : lw_okq (⟨"SmokedLettersModel", "readClerk", "()V"⟩, 39) := ⟨⟨by decide +kernel, by decide +kernel⟩, lw_t4 (List.mem_of_getElem? (i := 72) rfl), lw_t5 (List.mem_of_getElem? (i := 3) rfl), lw_t5 (List.mem_of_getElem? (i := 4) rfl)⟩
theorem lw_p30 : lw_okq (⟨"SmokedLettersModel", "isTraveller", "(I)Z"⟩, 39) := ⟨⟨by decide +kernel, by decide +kernel⟩, lw_t4 (List.mem_of_getElem? (i := 72) rfl), lw_t5 (List.mem_of_getElem? (i := 11) rfl), lw_t5 (List.mem_of_getElem? (i := 12) rfl)⟩
theorem lw_p31 : lw_okq (⟨"SmokedLettersModel", "isClerk", "(I)Z"⟩, 39) := ⟨⟨by decide +kernel, by decide +kernel⟩, lw_t4 (List.mem_of_getElem? (i := 72) rfl), lw_t5 (List.mem_of_getElem? (i := 19) rfl), lw_t5 (List.mem_of_getElem? (i := 20) rfl)⟩
def lw_privs_2 : List (MethodName × Nat) := [(⟨"SmokedLetters", "ways", "(II)J"⟩, 20), (⟨"SmokedLetters", "isPlace", "(I)Z"⟩, 20), (⟨"SmokedLetters", "stoodAt", "(I)I"⟩, 20), (⟨"SmokedLetters", "isLetter", "(I)Z"⟩, 20), (⟨"SmokedLetters", "makes", "([II)Z"⟩, 20), (⟨"SmokedLetters", "findRow", "(III)Z"⟩, 20), (⟨"SmokedLettersModel", "next", "()V"⟩, 39), (⟨"SmokedLettersModel", "letterAt", "(I)I"⟩, 39), (⟨"SmokedLettersModel", "readItem", "()V"⟩, 39), (⟨"SmokedLettersModel", "readOne", "(II)V"⟩, 39), (⟨"SmokedLettersModel", "must", "(Z)V"⟩, 39), (⟨"SmokedLettersModel", "readInto", "([IIII)I"⟩, 39), (⟨"SmokedLettersModel", "readTraveller", "()V"⟩, 39), (⟨"SmokedLettersModel", "readClerk", "()V"⟩, 39), (⟨"SmokedLettersModel", "isTraveller", "(I)Z"⟩, 39), (⟨"SmokedLettersModel", "isClerk", "(I)Z"⟩, 39)]
theorem lw_r2 : ∀ q ∈ lw_privs_2, lw_okq q := List.forall_mem_cons.mpr ⟨lw_p16, List.forall_mem_cons.mpr ⟨lw_p17, List.forall_mem_cons.mpr ⟨lw_p18, List.forall_mem_cons.mpr ⟨lw_p19, List.forall_mem_cons.mpr ⟨lw_p20, List.forall_mem_cons.mpr ⟨lw_p21, List.forall_mem_cons.mpr ⟨lw_p22, List.forall_mem_cons.mpr ⟨lw_p23, List.forall_mem_cons.mpr ⟨lw_p24, List.forall_mem_cons.mpr ⟨lw_p25, List.forall_mem_cons.mpr ⟨lw_p26, List.forall_mem_cons.mpr ⟨lw_p27, List.forall_mem_cons.mpr ⟨lw_p28, List.forall_mem_cons.mpr ⟨lw_p29, List.forall_mem_cons.mpr ⟨lw_p30, List.forall_mem_cons.mpr ⟨lw_p31, fun _ h => absurd h List.not_mem_nil⟩⟩⟩⟩⟩⟩⟩⟩⟩⟩⟩⟩⟩⟩⟩⟩
theorem lw_p32 : lw_okq (⟨"SmokedLettersModel", "leavers", "()I"⟩, 39) := ⟨⟨by decide +kernel, by decide +kernel⟩, lw_t4 (List.mem_of_getElem? (i := 72) rfl), lw_t5 (List.mem_of_getElem? (i := 27) rfl), lw_t5 (List.mem_of_getElem? (i := 28) rfl)⟩
theorem lw_p33 : lw_okq (⟨"SmokedLettersModel", "mayLeave", "(I)Z"⟩, 39) := ⟨⟨by decide +kernel, by decide +kernel⟩, lw_t4 (List.mem_of_getElem? (i := 72) rfl), lw_t5 (List.mem_of_getElem? (i := 31) rfl), lw_t5 (List.mem_of_getElem? (i := 32) rfl)⟩
theorem lw_p34 : lw_okq (⟨"SmokedLettersModel", "goneSet", "()I"⟩, 39) := ⟨⟨by decide +kernel, by decide +kernel⟩, lw_t4 (List.mem_of_getElem? (i := 72) rfl), lw_t5 (List.mem_of_getElem? (i := 35) rfl), lw_t5 (List.mem_of_getElem? (i := 36) rfl)⟩
theorem lw_p35 : lw_okq (⟨"SmokedLettersModel", "sailsOn", "(I)Z"⟩, 39) := ⟨⟨by decide +kernel, by decide +kernel⟩, lw_t4 (List.mem_of_getElem? (i := 72) rfl), lw_t5 (List.mem_of_getElem? (i := 39) rfl), lw_t5 (List.mem_of_getElem? (i := 40) rfl)⟩
theorem lw_p36 : lw_okq (⟨"SmokedLettersModel", "isRow", "(I)Z"⟩, 39) := ⟨⟨by decide +kernel, by decide +kernel⟩, lw_t4 (List.mem_of_getElem? (i := 72) rfl), lw_t5 (List.mem_of_getElem? (i := 47) rfl), lw_t5 (List.mem_of_getElem? (i := 48) rfl)⟩
theorem lw_p37 : lw_okq (⟨"SmokedLettersModel", "remembers", "()V"⟩, 39) := ⟨⟨by decide +kernel, by decide +kernel⟩, lw_t4 (List.mem_of_getElem? (i := 72) rfl), lw_t5 (List.mem_of_getElem? (i := 51) rfl), lw_t5 (List.mem_of_getElem? (i := 52) rfl)⟩
theorem lw_p38 : lw_okq (⟨"SmokedLettersModel", "vinegar", "([II)I"⟩, 39) := ⟨⟨by decide +kernel, by decide +kernel⟩, lw_t4 (List.mem_of_getElem? (i := 72) rfl), lw_t5 (List.mem_of_getElem? (i := 59) rfl), lw_t5 (List.mem_of_getElem? (i := 60) rfl)⟩
theorem lw_p39 : lw_okq (⟨"SmokedLettersModel", "power", "(II)I"⟩, 39) := ⟨⟨by decide +kernel, by decide +kernel⟩, lw_t4 (List.mem_of_getElem? (i := 72) rfl), lw_t5 (List.mem_of_getElem? (i := 78) rfl), lw_t5 (List.mem_of_getElem? (i := 79) rfl)⟩
theorem lw_p40 : lw_okq (⟨"SmokedLettersModel", "lays", "(I)V"⟩, 39) := ⟨⟨by decide +kernel, by decide +kernel⟩, lw_t4 (List.mem_of_getElem? (i := 72) rfl), lw_t5 (List.mem_of_getElem? (i := 82) rfl), lw_t5 (List.mem_of_getElem? (i := 83) rfl)⟩
theorem lw_p41 : lw_okq (⟨"SmokedLettersModel", "goes", "()I"⟩, 39) := ⟨⟨by decide +kernel, by decide +kernel⟩, lw_t4 (List.mem_of_getElem? (i := 72) rfl), lw_t5 (List.mem_of_getElem? (i := 86) rfl), lw_t5 (List.mem_of_getElem? (i := 87) rfl)⟩
theorem lw_p42 : lw_okq (⟨"SmokedLettersModel", "comes", "(I)V"⟩, 39) := ⟨⟨by decide +kernel, by decide +kernel⟩, lw_t4 (List.mem_of_getElem? (i := 72) rfl), lw_t5 (List.mem_of_getElem? (i := 90) rfl), lw_t5 (List.mem_of_getElem? (i := 91) rfl)⟩
theorem lw_p43 : lw_okq (⟨"SmokedLettersModel", "sailedBy", "(I)I"⟩, 39) := ⟨⟨by decide +kernel, by decide +kernel⟩, lw_t4 (List.mem_of_getElem? (i := 72) rfl), lw_t5 (List.mem_of_getElem? (i := 94) rfl), lw_t5 (List.mem_of_getElem? (i := 95) rfl)⟩
theorem lw_p44 : lw_okq (⟨"SmokedLettersModel", "late", "()I"⟩, 39) := ⟨⟨by decide +kernel, by decide +kernel⟩, lw_t4 (List.mem_of_getElem? (i := 72) rfl), lw_t5 (List.mem_of_getElem? (i := 103) rfl), lw_t5 (List.mem_of_getElem? (i := 104) rfl)⟩
theorem lw_p45 : lw_okq (⟨"SmokedLettersModel", "findSick", "(I)V"⟩, 39) := ⟨⟨by decide +kernel, by decide +kernel⟩, lw_t4 (List.mem_of_getElem? (i := 72) rfl), lw_t5 (List.mem_of_getElem? (i := 132) rfl), lw_t5 (List.mem_of_getElem? (i := 133) rfl)⟩
theorem lw_p46 : lw_okq (⟨"SmokedLettersModel", "madeOf", "(II)I"⟩, 39) := ⟨⟨by decide +kernel, by decide +kernel⟩, lw_t4 (List.mem_of_getElem? (i := 72) rfl), lw_t5 (List.mem_of_getElem? (i := 149) rfl), lw_t5 (List.mem_of_getElem? (i := 150) rfl)⟩
theorem lw_p47 : lw_okq (⟨"SmokedLettersModel", "isCopied", "(I)Z"⟩, 39) := ⟨⟨by decide +kernel, by decide +kernel⟩, lw_t4 (List.mem_of_getElem? (i := 72) rfl), lw_t5 (List.mem_of_getElem? (i := 169) rfl), lw_t5 (List.mem_of_getElem? (i := 170) rfl)⟩
def lw_privs_3 : List (MethodName × Nat) := [(⟨"SmokedLettersModel", "leavers", "()I"⟩, 39), (⟨"SmokedLettersModel", "mayLeave", "(I)Z"⟩, 39), (⟨"SmokedLettersModel", "goneSet", "()I"⟩, 39), (⟨"SmokedLettersModel", "sailsOn", "(I)Z"⟩, 39), (⟨"SmokedLettersModel", "isRow", "(I)Z"⟩, 39), (⟨"SmokedLettersModel", "remembers", "()V"⟩, 39), (⟨"SmokedLettersModel", "vinegar", "([II)I"⟩, 39), (⟨"SmokedLettersModel", "power", "(II)I"⟩, 39), (⟨"SmokedLettersModel", "lays", "(I)V"⟩, 39), (⟨"SmokedLettersModel", "goes", "()I"⟩, 39), (⟨"SmokedLettersModel", "comes", "(I)V"⟩, 39), (⟨"SmokedLettersModel", "sailedBy", "(I)I"⟩, 39), (⟨"SmokedLettersModel", "late", "()I"⟩, 39), (⟨"SmokedLettersModel", "findSick", "(I)V"⟩, 39), (⟨"SmokedLettersModel", "madeOf", "(II)I"⟩, 39), (⟨"SmokedLettersModel", "isCopied", "(I)Z"⟩, 39)]
theorem lw_r3 : ∀ q ∈ lw_privs_3, lw_okq q := List.forall_mem_cons.mpr ⟨lw_p32, List.forall_mem_cons.mpr ⟨lw_p33, List.forall_mem_cons.mpr ⟨lw_p34, List.forall_mem_cons.mpr ⟨lw_p35, List.forall_mem_cons.mpr ⟨lw_p36, List.forall_mem_cons.mpr ⟨lw_p37, List.forall_mem_cons.mpr ⟨lw_p38, List.forall_mem_cons.mpr ⟨lw_p39, List.forall_mem_cons.mpr ⟨lw_p40, List.forall_mem_cons.mpr ⟨lw_p41, List.forall_mem_cons.mpr ⟨lw_p42, List.forall_mem_cons.mpr ⟨lw_p43, List.forall_mem_cons.mpr ⟨lw_p44, List.forall_mem_cons.mpr ⟨lw_p45, List.forall_mem_cons.mpr ⟨lw_p46, List.forall_mem_cons.mpr ⟨lw_p47, fun _ h => absurd h List.not_mem_nil⟩⟩⟩⟩⟩⟩⟩⟩⟩⟩⟩⟩⟩⟩⟩⟩
theorem lw_p48 : lw_okq (⟨"SmokedLettersModel", "stoodAt", "(I)I"⟩, 39) := ⟨⟨by decide +kernel, by decide +kernel⟩, lw_t4 (List.mem_of_getElem? (i := 72) rfl), lw_t5 (List.mem_of_getElem? (i := 173) rfl), lw_t5 (List.mem_of_getElem? (i := 174) rfl)⟩
theorem lw_p49 : lw_okq (⟨"SmokedLettersModel", "ways", "()I"⟩, 39) := ⟨⟨by decide +kernel, by decide +kernel⟩, lw_t4 (List.mem_of_getElem? (i := 72) rfl), lw_t5 (List.mem_of_getElem? (i := 181) rfl), lw_t5 (List.mem_of_getElem? (i := 182) rfl)⟩
theorem lw_p50 : lw_okq (⟨"SmokedLettersModel", "sureOf", "(I)I"⟩, 39) := ⟨⟨by decide +kernel, by decide +kernel⟩, lw_t4 (List.mem_of_getElem? (i := 72) rfl), lw_t5 (List.mem_of_getElem? (i := 185) rfl), lw_t5 (List.mem_of_getElem? (i := 186) rfl)⟩
theorem lw_p51 : lw_okq (⟨"SmokedLettersModel", "reads", "(I)Z"⟩, 39) := ⟨⟨by decide +kernel, by decide +kernel⟩, lw_t4 (List.mem_of_getElem? (i := 72) rfl), lw_t5 (List.mem_of_getElem? (i := 193) rfl), lw_t5 (List.mem_of_getElem? (i := 194) rfl)⟩
theorem lw_p52 : lw_okq (⟨"SmokedLettersModel", "begins", "()V"⟩, 39) := ⟨⟨by decide +kernel, by decide +kernel⟩, lw_t4 (List.mem_of_getElem? (i := 72) rfl), lw_t5 (List.mem_of_getElem? (i := 198) rfl), lw_t5 (List.mem_of_getElem? (i := 199) rfl)⟩
theorem lw_p53 : lw_okq (⟨"SmokedLettersModel", "smokesOn", "(I)V"⟩, 39) := ⟨⟨by decide +kernel, by decide +kernel⟩, lw_t4 (List.mem_of_getElem? (i := 72) rfl), lw_t5 (List.mem_of_getElem? (i := 202) rfl), lw_t5 (List.mem_of_getElem? (i := 203) rfl)⟩
theorem lw_p54 : lw_okq (⟨"SmokedLettersModel", "isLetter", "([I)Z"⟩, 39) := ⟨⟨by decide +kernel, by decide +kernel⟩, lw_t4 (List.mem_of_getElem? (i := 72) rfl), lw_t5 (List.mem_of_getElem? (i := 206) rfl), lw_t5 (List.mem_of_getElem? (i := 207) rfl)⟩
theorem lw_p55 : lw_okq (⟨"SmokedLettersModel", "makes", "(II)Z"⟩, 39) := ⟨⟨by decide +kernel, by decide +kernel⟩, lw_t4 (List.mem_of_getElem? (i := 72) rfl), lw_t5 (List.mem_of_getElem? (i := 214) rfl), lw_t5 (List.mem_of_getElem? (i := 215) rfl)⟩
theorem lw_p56 : lw_okq (⟨"SmokedLettersModel", "clerkRate", "(I)I"⟩, 39) := ⟨⟨by decide +kernel, by decide +kernel⟩, lw_t4 (List.mem_of_getElem? (i := 72) rfl), lw_t5 (List.mem_of_getElem? (i := 223) rfl), lw_t5 (List.mem_of_getElem? (i := 224) rfl)⟩
theorem lw_p57 : lw_okq (⟨"SmokedLettersModel", "nunRate", "(I)I"⟩, 39) := ⟨⟨by decide +kernel, by decide +kernel⟩, lw_t4 (List.mem_of_getElem? (i := 72) rfl), lw_t5 (List.mem_of_getElem? (i := 227) rfl), lw_t5 (List.mem_of_getElem? (i := 228) rfl)⟩
theorem lw_p58 : lw_okq (⟨"SmokedLettersModel", "nephewRate", "(I)I"⟩, 39) := ⟨⟨by decide +kernel, by decide +kernel⟩, lw_t4 (List.mem_of_getElem? (i := 72) rfl), lw_t5 (List.mem_of_getElem? (i := 231) rfl), lw_t5 (List.mem_of_getElem? (i := 232) rfl)⟩
def lw_privs_4 : List (MethodName × Nat) := [(⟨"SmokedLettersModel", "stoodAt", "(I)I"⟩, 39), (⟨"SmokedLettersModel", "ways", "()I"⟩, 39), (⟨"SmokedLettersModel", "sureOf", "(I)I"⟩, 39), (⟨"SmokedLettersModel", "reads", "(I)Z"⟩, 39), (⟨"SmokedLettersModel", "begins", "()V"⟩, 39), (⟨"SmokedLettersModel", "smokesOn", "(I)V"⟩, 39), (⟨"SmokedLettersModel", "isLetter", "([I)Z"⟩, 39), (⟨"SmokedLettersModel", "makes", "(II)Z"⟩, 39), (⟨"SmokedLettersModel", "clerkRate", "(I)I"⟩, 39), (⟨"SmokedLettersModel", "nunRate", "(I)I"⟩, 39), (⟨"SmokedLettersModel", "nephewRate", "(I)I"⟩, 39)]
theorem lw_r4 : ∀ q ∈ lw_privs_4, lw_okq q := List.forall_mem_cons.mpr ⟨lw_p48, List.forall_mem_cons.mpr ⟨lw_p49, List.forall_mem_cons.mpr ⟨lw_p50, List.forall_mem_cons.mpr ⟨lw_p51, List.forall_mem_cons.mpr ⟨lw_p52, List.forall_mem_cons.mpr ⟨lw_p53, List.forall_mem_cons.mpr ⟨lw_p54, List.forall_mem_cons.mpr ⟨lw_p55, List.forall_mem_cons.mpr ⟨lw_p56, List.forall_mem_cons.mpr ⟨lw_p57, List.forall_mem_cons.mpr ⟨lw_p58, fun _ h => absurd h List.not_mem_nil⟩⟩⟩⟩⟩⟩⟩⟩⟩⟩⟩
def lw_privs : List (MethodName × Nat) := lw_privs_1 ++ (lw_privs_2 ++ (lw_privs_3 ++ (lw_privs_4)))
def lw_tbl : List Cond := k2_sels lw_privs ++ tables_1
theorem lw_privs_ok : ∀ q ∈ lw_privs, lw_okq q := by
  show ∀ q ∈ lw_privs_1 ++ (lw_privs_2 ++ (lw_privs_3 ++ (lw_privs_4))), lw_okq q
  exact List.forall_mem_append.mpr ⟨lw_r1, List.forall_mem_append.mpr ⟨lw_r2, List.forall_mem_append.mpr ⟨lw_r3, lw_r4⟩⟩⟩
-- ===== ONE list of words for every method: the tables' words that hold all through a run =====
def lw_all : List Cond := lw_tbl.filter goodWord
/-- a word of the tables by its place: claim/WORDS.tsv -/
theorem lw_w {w : Cond} (i : Nat) (h : lw_tbl[i]? = some w) (g : goodWord w = true) : w ∈ lw_all := List.mem_filter.mpr ⟨List.mem_of_getElem? h, g⟩
theorem lw_all_tbl {w : Cond} (h : w ∈ lw_all) : w ∈ lw_tbl := (List.mem_filter.mp h).1
theorem lw_self : GoodIn lw_all lw_all := fun w h => ⟨h, good_of_word (List.mem_filter.mp h).2⟩
/-- a class's field words, by their places -/
theorem lw_in (ws : List Cond) (ps : List Nat) (hp : ws = ps.filterMap (fun i => lw_tbl[i]?)) (hg : ws.all goodWord = true) : ∀ w ∈ ws, w ∈ lw_all := by
  intro w h
  have h1 := List.all_eq_true.mp hg w h
  rw [hp] at h
  obtain ⟨i, -, hi⟩ := List.mem_filterMap.mp h
  exact lw_w i hi h1
/-- the words of a contract for the method y with code b, L locals, answer r -/
abbrev ws_ (y : MethodName) (b : ByteArray) (L : Nat) (r : Option FieldType) : List Cond := Cond.code y b L r :: lw_all
theorem lw_meth {y : MethodName} {b : ByteArray} {L : Nat} {r : Option FieldType} (h : Cond.code y b L r ∈ lw_all) : GoodIn lw_all (ws_ y b L r) := by
  intro w hw
  rcases List.mem_cons.mp hw with e | e
  · rw [e]
    exact lw_self _ h
  · exact lw_self _ e
theorem lw_app {a c : List Cond} (ha : ∀ w ∈ a, w ∈ lw_all) (hc : GoodIn lw_all c) : GoodIn lw_all (a ++ c) := by
  intro w hw
  rcases List.mem_append.mp hw with e | e
  · exact lw_self w (ha w e)
  · exact hc w e
/-- what a call through an object asks: cwV n hts (lw_V ..) -/
theorem lw_V {own : String} {idx : Nat} {C : String} {y : MethodName} {b : ByteArray} {L : Nat} {r : Option FieldType} (h1 : Cond.methodLink own idx y ∈ lw_all) (h2 : Cond.instanceMethod y ∈ lw_all) (h3 : Cond.selects C y y ∈ lw_all) (h4 : Cond.initialized C ∈ lw_all) (h5 : Cond.code y b L r ∈ lw_all) : GoodIn lw_all (wsV own idx C y (ws_ y b L r)) := by
  refine lw_app ?_ (lw_meth h5)
  intro w hw
  simp only [List.mem_cons, List.not_mem_nil, or_false] at hw
  rcases hw with e | e | e | e
  · rw [e]; exact h1
  · rw [e]; exact h2
  · rw [e]; exact h3
  · rw [e]; exact h4
/-- what a static call asks: va_cwS n hts (lw_S ..) -/
theorem lw_S {own : String} {idx : Nat} {y : MethodName} {b : ByteArray} {L : Nat} {r : Option FieldType} (h1 : Cond.methodLink own idx y ∈ lw_all) (h2 : Cond.static y ∈ lw_all) (h3 : Cond.initialized y.cls ∈ lw_all) (h4 : Cond.code y b L r ∈ lw_all) : GoodIn lw_all (va_wsS own idx y (ws_ y b L r)) := by
  refine lw_app ?_ (lw_meth h4)
  intro w hw
  simp only [List.mem_cons, List.not_mem_nil, or_false] at hw
  rcases hw with e | e | e
  · rw [e]; exact h1
  · rw [e]; exact h2
  · rw [e]; exact h3
/-- the words of a contract for a method WITH HANDLERS (hh: its table) -/
abbrev wsW_ (y : MethodName) (b : ByteArray) (L : Nat) (r : Option FieldType) (hh : List (Nat × Nat × Nat × Nat)) : List Cond := Cond.codeWith y b L r hh :: lw_all
theorem lw_methW {y : MethodName} {b : ByteArray} {L : Nat} {r : Option FieldType} {hh : List (Nat × Nat × Nat × Nat)} (h : Cond.codeWith y b L r hh ∈ lw_all) : GoodIn lw_all (wsW_ y b L r hh) := by
  intro w hw
  rcases List.mem_cons.mp hw with e | e
  · rw [e]
    exact lw_self _ h
  · exact lw_self _ e
/-- any list of words by their places (lw_in), good -/
theorem lw_good {ws : List Cond} (h : ∀ w ∈ ws, w ∈ lw_all) : GoodIn lw_all ws := fun w hw => lw_self w (h w hw)
/-- what a call of a method with handlers asks: vx_cwVW n hts (lw_VW ..), vx_cwSW n hts (lw_SW ..) -/
theorem lw_VW {own : String} {idx : Nat} {C : String} {y : MethodName} {b : ByteArray} {L : Nat} {r : Option FieldType} {hh : List (Nat × Nat × Nat × Nat)} (h1 : Cond.methodLink own idx y ∈ lw_all) (h2 : Cond.instanceMethod y ∈ lw_all) (h3 : Cond.selects C y y ∈ lw_all) (h4 : Cond.initialized C ∈ lw_all) (h5 : Cond.codeWith y b L r hh ∈ lw_all) : GoodIn lw_all (wsV own idx C y (wsW_ y b L r hh)) := by
  refine lw_app ?_ (lw_methW h5)
  intro w hw
  simp only [List.mem_cons, List.not_mem_nil, or_false] at hw
  rcases hw with e | e | e | e
  · rw [e]; exact h1
  · rw [e]; exact h2
  · rw [e]; exact h3
  · rw [e]; exact h4
theorem lw_SW {own : String} {idx : Nat} {y : MethodName} {b : ByteArray} {L : Nat} {r : Option FieldType} {hh : List (Nat × Nat × Nat × Nat)} (h1 : Cond.methodLink own idx y ∈ lw_all) (h2 : Cond.static y ∈ lw_all) (h3 : Cond.initialized y.cls ∈ lw_all) (h4 : Cond.codeWith y b L r hh ∈ lw_all) : GoodIn lw_all (va_wsS own idx y (wsW_ y b L r hh)) := by
  refine lw_app ?_ (lw_methW h4)
  intro w hw
  simp only [List.mem_cons, List.not_mem_nil, or_false] at hw
  rcases hw with e | e | e
  · rw [e]; exact h1
  · rw [e]; exact h2
  · rw [e]; exact h3
/-- a word by its place in its run of the tables -/
theorem lw_at {r : List Cond} (hr : ∀ w ∈ r, w ∈ lw_tbl) {w : Cond} (i : Nat) (h : r[i]? = some w) : w ∈ lw_tbl := hr w (List.mem_of_getElem? h)
theorem lw_g {w : Cond} (h : w ∈ lw_tbl) (g : goodWord w = true) : w ∈ lw_all := List.mem_filter.mpr ⟨h, g⟩
theorem lw_ms : ∀ w ∈ k2_sels lw_privs, w ∈ lw_tbl := fun w h => show w ∈ k2_sels lw_privs ++ tables_1 from List.mem_append_left _ h
theorem lw_m1 : ∀ w ∈ tables_1_1, w ∈ lw_tbl := fun w h => show w ∈ k2_sels lw_privs ++ tables_1 from List.mem_append_right (k2_sels lw_privs) (show w ∈ tables_1 from List.mem_append_left _ h)
theorem lw_m2 : ∀ w ∈ tables_1_2, w ∈ lw_tbl := fun w h => show w ∈ k2_sels lw_privs ++ tables_1 from List.mem_append_right (k2_sels lw_privs) (show w ∈ tables_1 from List.mem_append_right _ (List.mem_append_left _ h))
theorem lw_m3 : ∀ w ∈ tables_1_3, w ∈ lw_tbl := fun w h => show w ∈ k2_sels lw_privs ++ tables_1 from List.mem_append_right (k2_sels lw_privs) (show w ∈ tables_1 from List.mem_append_right _ (List.mem_append_right _ (List.mem_append_left _ h)))
theorem lw_m4 : ∀ w ∈ tables_1_4, w ∈ lw_tbl := fun w h => show w ∈ k2_sels lw_privs ++ tables_1 from List.mem_append_right (k2_sels lw_privs) (show w ∈ tables_1 from List.mem_append_right _ (List.mem_append_right _ (List.mem_append_right _ (List.mem_append_left _ h))))
theorem lw_m5 : ∀ w ∈ tables_1_5, w ∈ lw_tbl := fun w h => show w ∈ k2_sels lw_privs ++ tables_1 from List.mem_append_right (k2_sels lw_privs) (show w ∈ tables_1 from List.mem_append_right _ (List.mem_append_right _ (List.mem_append_right _ (List.mem_append_right _ (List.mem_append_left _ h)))))
theorem lw_m6 : ∀ w ∈ tables_1_6, w ∈ lw_tbl := fun w h => show w ∈ k2_sels lw_privs ++ tables_1 from List.mem_append_right (k2_sels lw_privs) (show w ∈ tables_1 from List.mem_append_right _ (List.mem_append_right _ (List.mem_append_right _ (List.mem_append_right _ (List.mem_append_right _ h)))))
theorem qs0 : (Cond.selects "SmokedLetters$Reader" ⟨"SmokedLetters$Reader", "next", "()V"⟩ ⟨"SmokedLetters$Reader", "next", "()V"⟩) ∈ lw_all := lw_g (lw_at lw_ms 0 rfl) rfl
theorem qs1 : (Cond.selects "SmokedLetters$Reader" ⟨"SmokedLetters$Reader", "here", "()I"⟩ ⟨"SmokedLetters$Reader", "here", "()I"⟩) ∈ lw_all := lw_g (lw_at lw_ms 1 rfl) rfl
theorem qs2 : (Cond.selects "SmokedLetters$Reader" ⟨"SmokedLetters$Reader", "may", "(I)Z"⟩ ⟨"SmokedLetters$Reader", "may", "(I)Z"⟩) ∈ lw_all := lw_g (lw_at lw_ms 2 rfl) rfl
theorem qs3 : (Cond.selects "SmokedLetters$Reader" ⟨"SmokedLetters$Reader", "due", "(Z)I"⟩ ⟨"SmokedLetters$Reader", "due", "(Z)I"⟩) ∈ lw_all := lw_g (lw_at lw_ms 3 rfl) rfl
theorem qs4 : (Cond.selects "java/lang/Throwable" ⟨"java/lang/Throwable", "fillInStackTrace", "(I)Ljava/lang/Throwable;"⟩ ⟨"java/lang/Throwable", "fillInStackTrace", "(I)Ljava/lang/Throwable;"⟩) ∈ lw_all := lw_g (lw_at lw_ms 4 rfl) rfl
theorem qs5 : (Cond.selects "SmokedLetters$Reader" ⟨"SmokedLetters$Reader", "item", "(I)V"⟩ ⟨"SmokedLetters$Reader", "item", "(I)V"⟩) ∈ lw_all := lw_g (lw_at lw_ms 5 rfl) rfl
theorem qs6 : (Cond.selects "SmokedLetters$Reader" ⟨"SmokedLetters$Reader", "number", "(II)I"⟩ ⟨"SmokedLetters$Reader", "number", "(II)I"⟩) ∈ lw_all := lw_g (lw_at lw_ms 6 rfl) rfl
theorem qs7 : (Cond.selects "SmokedLetters" ⟨"SmokedLetters", "isTraveller", "(I)Z"⟩ ⟨"SmokedLetters", "isTraveller", "(I)Z"⟩) ∈ lw_all := lw_g (lw_at lw_ms 7 rfl) rfl
theorem qs8 : (Cond.selects "SmokedLetters" ⟨"SmokedLetters", "isClerk", "(I)Z"⟩ ⟨"SmokedLetters", "isClerk", "(I)Z"⟩) ∈ lw_all := lw_g (lw_at lw_ms 8 rfl) rfl
theorem qs9 : (Cond.selects "SmokedLetters" ⟨"SmokedLetters", "isRow", "(I)Z"⟩ ⟨"SmokedLetters", "isRow", "(I)Z"⟩) ∈ lw_all := lw_g (lw_at lw_ms 9 rfl) rfl
theorem qs10 : (Cond.selects "SmokedLetters" ⟨"SmokedLetters", "know", "()V"⟩ ⟨"SmokedLetters", "know", "()V"⟩) ∈ lw_all := lw_g (lw_at lw_ms 10 rfl) rfl
theorem qs11 : (Cond.selects "SmokedLetters" ⟨"SmokedLetters", "isTravellerOrNone", "(I)Z"⟩ ⟨"SmokedLetters", "isTravellerOrNone", "(I)Z"⟩) ∈ lw_all := lw_g (lw_at lw_ms 11 rfl) rfl
theorem qs12 : (Cond.selects "SmokedLetters" ⟨"SmokedLetters", "go", "(I)V"⟩ ⟨"SmokedLetters", "go", "(I)V"⟩) ∈ lw_all := lw_g (lw_at lw_ms 12 rfl) rfl
theorem qs13 : (Cond.selects "SmokedLetters" ⟨"SmokedLetters", "sailedBy", "(I)I"⟩ ⟨"SmokedLetters", "sailedBy", "(I)I"⟩) ∈ lw_all := lw_g (lw_at lw_ms 13 rfl) rfl
theorem qs14 : (Cond.selects "SmokedLetters" ⟨"SmokedLetters", "nextOf", "(I)I"⟩ ⟨"SmokedLetters", "nextOf", "(I)I"⟩) ∈ lw_all := lw_g (lw_at lw_ms 14 rfl) rfl
theorem qs15 : (Cond.selects "SmokedLetters" ⟨"SmokedLetters", "isPlan", "(I)Z"⟩ ⟨"SmokedLetters", "isPlan", "(I)Z"⟩) ∈ lw_all := lw_g (lw_at lw_ms 15 rfl) rfl
theorem qs16 : (Cond.selects "SmokedLetters" ⟨"SmokedLetters", "ways", "(II)J"⟩ ⟨"SmokedLetters", "ways", "(II)J"⟩) ∈ lw_all := lw_g (lw_at lw_ms 16 rfl) rfl
theorem qs17 : (Cond.selects "SmokedLetters" ⟨"SmokedLetters", "isPlace", "(I)Z"⟩ ⟨"SmokedLetters", "isPlace", "(I)Z"⟩) ∈ lw_all := lw_g (lw_at lw_ms 17 rfl) rfl
theorem qs18 : (Cond.selects "SmokedLetters" ⟨"SmokedLetters", "stoodAt", "(I)I"⟩ ⟨"SmokedLetters", "stoodAt", "(I)I"⟩) ∈ lw_all := lw_g (lw_at lw_ms 18 rfl) rfl
theorem qs19 : (Cond.selects "SmokedLetters" ⟨"SmokedLetters", "isLetter", "(I)Z"⟩ ⟨"SmokedLetters", "isLetter", "(I)Z"⟩) ∈ lw_all := lw_g (lw_at lw_ms 19 rfl) rfl
theorem qs20 : (Cond.selects "SmokedLetters" ⟨"SmokedLetters", "makes", "([II)Z"⟩ ⟨"SmokedLetters", "makes", "([II)Z"⟩) ∈ lw_all := lw_g (lw_at lw_ms 20 rfl) rfl
theorem qs21 : (Cond.selects "SmokedLetters" ⟨"SmokedLetters", "findRow", "(III)Z"⟩ ⟨"SmokedLetters", "findRow", "(III)Z"⟩) ∈ lw_all := lw_g (lw_at lw_ms 21 rfl) rfl
theorem qs22 : (Cond.selects "SmokedLettersModel" ⟨"SmokedLettersModel", "next", "()V"⟩ ⟨"SmokedLettersModel", "next", "()V"⟩) ∈ lw_all := lw_g (lw_at lw_ms 22 rfl) rfl
theorem qs23 : (Cond.selects "SmokedLettersModel" ⟨"SmokedLettersModel", "letterAt", "(I)I"⟩ ⟨"SmokedLettersModel", "letterAt", "(I)I"⟩) ∈ lw_all := lw_g (lw_at lw_ms 23 rfl) rfl
theorem qs24 : (Cond.selects "SmokedLettersModel" ⟨"SmokedLettersModel", "readItem", "()V"⟩ ⟨"SmokedLettersModel", "readItem", "()V"⟩) ∈ lw_all := lw_g (lw_at lw_ms 24 rfl) rfl
theorem qs25 : (Cond.selects "SmokedLettersModel" ⟨"SmokedLettersModel", "readOne", "(II)V"⟩ ⟨"SmokedLettersModel", "readOne", "(II)V"⟩) ∈ lw_all := lw_g (lw_at lw_ms 25 rfl) rfl
theorem qs26 : (Cond.selects "SmokedLettersModel" ⟨"SmokedLettersModel", "must", "(Z)V"⟩ ⟨"SmokedLettersModel", "must", "(Z)V"⟩) ∈ lw_all := lw_g (lw_at lw_ms 26 rfl) rfl
theorem qs27 : (Cond.selects "SmokedLettersModel" ⟨"SmokedLettersModel", "readInto", "([IIII)I"⟩ ⟨"SmokedLettersModel", "readInto", "([IIII)I"⟩) ∈ lw_all := lw_g (lw_at lw_ms 27 rfl) rfl
theorem qs28 : (Cond.selects "SmokedLettersModel" ⟨"SmokedLettersModel", "readTraveller", "()V"⟩ ⟨"SmokedLettersModel", "readTraveller", "()V"⟩) ∈ lw_all := lw_g (lw_at lw_ms 28 rfl) rfl
theorem qs29 : (Cond.selects "SmokedLettersModel" ⟨"SmokedLettersModel", "readClerk", "()V"⟩ ⟨"SmokedLettersModel", "readClerk", "()V"⟩) ∈ lw_all := lw_g (lw_at lw_ms 29 rfl) rfl
theorem qs30 : (Cond.selects "SmokedLettersModel" ⟨"SmokedLettersModel", "isTraveller", "(I)Z"⟩ ⟨"SmokedLettersModel", "isTraveller", "(I)Z"⟩) ∈ lw_all := lw_g (lw_at lw_ms 30 rfl) rfl
theorem qs31 : (Cond.selects "SmokedLettersModel" ⟨"SmokedLettersModel", "isClerk", "(I)Z"⟩ ⟨"SmokedLettersModel", "isClerk", "(I)Z"⟩) ∈ lw_all := lw_g (lw_at lw_ms 31 rfl) rfl
theorem qs32 : (Cond.selects "SmokedLettersModel" ⟨"SmokedLettersModel", "leavers", "()I"⟩ ⟨"SmokedLettersModel", "leavers", "()I"⟩) ∈ lw_all := lw_g (lw_at lw_ms 32 rfl) rfl
theorem qs33 : (Cond.selects "SmokedLettersModel" ⟨"SmokedLettersModel", "mayLeave", "(I)Z"⟩ ⟨"SmokedLettersModel", "mayLeave", "(I)Z"⟩) ∈ lw_all := lw_g (lw_at lw_ms 33 rfl) rfl
theorem qs34 : (Cond.selects "SmokedLettersModel" ⟨"SmokedLettersModel", "goneSet", "()I"⟩ ⟨"SmokedLettersModel", "goneSet", "()I"⟩) ∈ lw_all := lw_g (lw_at lw_ms 34 rfl) rfl
theorem qs35 : (Cond.selects "SmokedLettersModel" ⟨"SmokedLettersModel", "sailsOn", "(I)Z"⟩ ⟨"SmokedLettersModel", "sailsOn", "(I)Z"⟩) ∈ lw_all := lw_g (lw_at lw_ms 35 rfl) rfl
theorem qs36 : (Cond.selects "SmokedLettersModel" ⟨"SmokedLettersModel", "isRow", "(I)Z"⟩ ⟨"SmokedLettersModel", "isRow", "(I)Z"⟩) ∈ lw_all := lw_g (lw_at lw_ms 36 rfl) rfl
theorem qs37 : (Cond.selects "SmokedLettersModel" ⟨"SmokedLettersModel", "remembers", "()V"⟩ ⟨"SmokedLettersModel", "remembers", "()V"⟩) ∈ lw_all := lw_g (lw_at lw_ms 37 rfl) rfl
theorem qs38 : (Cond.selects "SmokedLettersModel" ⟨"SmokedLettersModel", "vinegar", "([II)I"⟩ ⟨"SmokedLettersModel", "vinegar", "([II)I"⟩) ∈ lw_all := lw_g (lw_at lw_ms 38 rfl) rfl
theorem qs39 : (Cond.selects "SmokedLettersModel" ⟨"SmokedLettersModel", "power", "(II)I"⟩ ⟨"SmokedLettersModel", "power", "(II)I"⟩) ∈ lw_all := lw_g (lw_at lw_ms 39 rfl) rfl
theorem qs40 : (Cond.selects "SmokedLettersModel" ⟨"SmokedLettersModel", "lays", "(I)V"⟩ ⟨"SmokedLettersModel", "lays", "(I)V"⟩) ∈ lw_all := lw_g (lw_at lw_ms 40 rfl) rfl
theorem qs41 : (Cond.selects "SmokedLettersModel" ⟨"SmokedLettersModel", "goes", "()I"⟩ ⟨"SmokedLettersModel", "goes", "()I"⟩) ∈ lw_all := lw_g (lw_at lw_ms 41 rfl) rfl
theorem qs42 : (Cond.selects "SmokedLettersModel" ⟨"SmokedLettersModel", "comes", "(I)V"⟩ ⟨"SmokedLettersModel", "comes", "(I)V"⟩) ∈ lw_all := lw_g (lw_at lw_ms 42 rfl) rfl
theorem qs43 : (Cond.selects "SmokedLettersModel" ⟨"SmokedLettersModel", "sailedBy", "(I)I"⟩ ⟨"SmokedLettersModel", "sailedBy", "(I)I"⟩) ∈ lw_all := lw_g (lw_at lw_ms 43 rfl) rfl
theorem qs44 : (Cond.selects "SmokedLettersModel" ⟨"SmokedLettersModel", "late", "()I"⟩ ⟨"SmokedLettersModel", "late", "()I"⟩) ∈ lw_all := lw_g (lw_at lw_ms 44 rfl) rfl
theorem qs45 : (Cond.selects "SmokedLettersModel" ⟨"SmokedLettersModel", "findSick", "(I)V"⟩ ⟨"SmokedLettersModel", "findSick", "(I)V"⟩) ∈ lw_all := lw_g (lw_at lw_ms 45 rfl) rfl
theorem qs46 : (Cond.selects "SmokedLettersModel" ⟨"SmokedLettersModel", "madeOf", "(II)I"⟩ ⟨"SmokedLettersModel", "madeOf", "(II)I"⟩) ∈ lw_all := lw_g (lw_at lw_ms 46 rfl) rfl
theorem qs47 : (Cond.selects "SmokedLettersModel" ⟨"SmokedLettersModel", "isCopied", "(I)Z"⟩ ⟨"SmokedLettersModel", "isCopied", "(I)Z"⟩) ∈ lw_all := lw_g (lw_at lw_ms 47 rfl) rfl
theorem qs48 : (Cond.selects "SmokedLettersModel" ⟨"SmokedLettersModel", "stoodAt", "(I)I"⟩ ⟨"SmokedLettersModel", "stoodAt", "(I)I"⟩) ∈ lw_all := lw_g (lw_at lw_ms 48 rfl) rfl
theorem qs49 : (Cond.selects "SmokedLettersModel" ⟨"SmokedLettersModel", "ways", "()I"⟩ ⟨"SmokedLettersModel", "ways", "()I"⟩) ∈ lw_all := lw_g (lw_at lw_ms 49 rfl) rfl
theorem qs50 : (Cond.selects "SmokedLettersModel" ⟨"SmokedLettersModel", "sureOf", "(I)I"⟩ ⟨"SmokedLettersModel", "sureOf", "(I)I"⟩) ∈ lw_all := lw_g (lw_at lw_ms 50 rfl) rfl
theorem qs51 : (Cond.selects "SmokedLettersModel" ⟨"SmokedLettersModel", "reads", "(I)Z"⟩ ⟨"SmokedLettersModel", "reads", "(I)Z"⟩) ∈ lw_all := lw_g (lw_at lw_ms 51 rfl) rfl
theorem qs52 : (Cond.selects "SmokedLettersModel" ⟨"SmokedLettersModel", "begins", "()V"⟩ ⟨"SmokedLettersModel", "begins", "()V"⟩) ∈ lw_all := lw_g (lw_at lw_ms 52 rfl) rfl
theorem qs53 : (Cond.selects "SmokedLettersModel" ⟨"SmokedLettersModel", "smokesOn", "(I)V"⟩ ⟨"SmokedLettersModel", "smokesOn", "(I)V"⟩) ∈ lw_all := lw_g (lw_at lw_ms 53 rfl) rfl
theorem qs54 : (Cond.selects "SmokedLettersModel" ⟨"SmokedLettersModel", "isLetter", "([I)Z"⟩ ⟨"SmokedLettersModel", "isLetter", "([I)Z"⟩) ∈ lw_all := lw_g (lw_at lw_ms 54 rfl) rfl
theorem qs55 : (Cond.selects "SmokedLettersModel" ⟨"SmokedLettersModel", "makes", "(II)Z"⟩ ⟨"SmokedLettersModel", "makes", "(II)Z"⟩) ∈ lw_all := lw_g (lw_at lw_ms 55 rfl) rfl
theorem qs56 : (Cond.selects "SmokedLettersModel" ⟨"SmokedLettersModel", "clerkRate", "(I)I"⟩ ⟨"SmokedLettersModel", "clerkRate", "(I)I"⟩) ∈ lw_all := lw_g (lw_at lw_ms 56 rfl) rfl
theorem qs57 : (Cond.selects "SmokedLettersModel" ⟨"SmokedLettersModel", "nunRate", "(I)I"⟩ ⟨"SmokedLettersModel", "nunRate", "(I)I"⟩) ∈ lw_all := lw_g (lw_at lw_ms 57 rfl) rfl
theorem qs58 : (Cond.selects "SmokedLettersModel" ⟨"SmokedLettersModel", "nephewRate", "(I)I"⟩ ⟨"SmokedLettersModel", "nephewRate", "(I)I"⟩) ∈ lw_all := lw_g (lw_at lw_ms 58 rfl) rfl
