-- ===== PART A: goes FIRST, ahead of the names: the tables' words, and 'selects' of the private methods out of them =====
/-- a private method of a class that the tables say can be made, by its rows of tables_1 -/
def lw_okq (q : MethodName × Nat) : Prop := (q.1.cls ≠ "java/lang/invoke/MethodHandle" ∧ q.1.cls ≠ "java/lang/invoke/VarHandle") ∧ Cond.instantiable q.1.cls q.2 ∈ tables_1 ∧ Cond.privateMethod q.1 ∈ tables_1 ∧ Cond.instanceMethod q.1 ∈ tables_1
set_option maxRecDepth 100000
theorem lw_t1 {w : Cond} (h : w ∈ tables_1_1) : w ∈ tables_1 := List.mem_append_left _ h
theorem lw_t2 {w : Cond} (h : w ∈ tables_1_2) : w ∈ tables_1 := List.mem_append_right _ (List.mem_append_left _ h)
theorem lw_t3 {w : Cond} (h : w ∈ tables_1_3) : w ∈ tables_1 := List.mem_append_right _ (List.mem_append_right _ (List.mem_append_left _ h))
theorem lw_t4 {w : Cond} (h : w ∈ tables_1_4) : w ∈ tables_1 := List.mem_append_right _ (List.mem_append_right _ (List.mem_append_right _ (List.mem_append_left _ h)))
theorem lw_t5 {w : Cond} (h : w ∈ tables_1_5) : w ∈ tables_1 := List.mem_append_right _ (List.mem_append_right _ (List.mem_append_right _ (List.mem_append_right _ (List.mem_append_left _ h))))
theorem lw_t6 {w : Cond} (h : w ∈ tables_1_6) : w ∈ tables_1 := List.mem_append_right _ (List.mem_append_right _ (List.mem_append_right _ (List.mem_append_right _ (List.mem_append_right _ (List.mem_append_left _ h)))))
theorem lw_t7 {w : Cond} (h : w ∈ tables_1_7) : w ∈ tables_1 := List.mem_append_right _ (List.mem_append_right _ (List.mem_append_right _ (List.mem_append_right _ (List.mem_append_right _ (List.mem_append_right _ h)))))
theorem lw_p0 : lw_okq (⟨"java/lang/NullPointerException", "getExtendedNPEMessage", "()Ljava/lang/String;"⟩, 8) := ⟨⟨by decide +kernel, by decide +kernel⟩, lw_t1 (List.mem_of_getElem? (i := 216) rfl), lw_t1 (List.mem_of_getElem? (i := 214) rfl), lw_t1 (List.mem_of_getElem? (i := 215) rfl)⟩
theorem lw_p1 : lw_okq (⟨"java/lang/Throwable", "fillInStackTrace", "(I)Ljava/lang/Throwable;"⟩, 6) := ⟨⟨by decide +kernel, by decide +kernel⟩, lw_t1 (List.mem_of_getElem? (i := 228) rfl), lw_t1 (List.mem_of_getElem? (i := 226) rfl), lw_t1 (List.mem_of_getElem? (i := 227) rfl)⟩
theorem lw_p2 : lw_okq (⟨"WindCarver", "well", "(I)I"⟩, 12) := ⟨⟨by decide +kernel, by decide +kernel⟩, lw_t1 (List.mem_of_getElem? (i := 33) rfl), lw_t2 (List.mem_of_getElem? (i := 43) rfl), lw_t2 (List.mem_of_getElem? (i := 44) rfl)⟩
theorem lw_p3 : lw_okq (⟨"WindCarver", "found", "(I)I"⟩, 12) := ⟨⟨by decide +kernel, by decide +kernel⟩, lw_t1 (List.mem_of_getElem? (i := 33) rfl), lw_t2 (List.mem_of_getElem? (i := 47) rfl), lw_t2 (List.mem_of_getElem? (i := 48) rfl)⟩
theorem lw_p4 : lw_okq (⟨"WindCarver$Shelf", "put", "(II)I"⟩, 1) := ⟨⟨by decide +kernel, by decide +kernel⟩, lw_t1 (List.mem_of_getElem? (i := 45) rfl), lw_t2 (List.mem_of_getElem? (i := 101) rfl), lw_t2 (List.mem_of_getElem? (i := 102) rfl)⟩
theorem lw_p5 : lw_okq (⟨"WindCarver$Shelf", "at", "(I)I"⟩, 1) := ⟨⟨by decide +kernel, by decide +kernel⟩, lw_t1 (List.mem_of_getElem? (i := 45) rfl), lw_t2 (List.mem_of_getElem? (i := 108) rfl), lw_t2 (List.mem_of_getElem? (i := 109) rfl)⟩
theorem lw_p6 : lw_okq (⟨"WindCarver$Shelf", "many", "()I"⟩, 1) := ⟨⟨by decide +kernel, by decide +kernel⟩, lw_t1 (List.mem_of_getElem? (i := 45) rfl), lw_t2 (List.mem_of_getElem? (i := 138) rfl), lw_t2 (List.mem_of_getElem? (i := 139) rfl)⟩
theorem lw_p7 : lw_okq (⟨"WindCarver$Reader", "next", "()V"⟩, 7) := ⟨⟨by decide +kernel, by decide +kernel⟩, lw_t2 (List.mem_of_getElem? (i := 153) rfl), lw_t2 (List.mem_of_getElem? (i := 188) rfl), lw_t2 (List.mem_of_getElem? (i := 189) rfl)⟩
theorem lw_p8 : lw_okq (⟨"WindCarver$Reader", "look", "()I"⟩, 7) := ⟨⟨by decide +kernel, by decide +kernel⟩, lw_t2 (List.mem_of_getElem? (i := 153) rfl), lw_t2 (List.mem_of_getElem? (i := 192) rfl), lw_t2 (List.mem_of_getElem? (i := 193) rfl)⟩
theorem lw_p9 : lw_okq (⟨"WindCarver$Reader", "four", "(C[I)V"⟩, 7) := ⟨⟨by decide +kernel, by decide +kernel⟩, lw_t2 (List.mem_of_getElem? (i := 153) rfl), lw_t2 (List.mem_of_getElem? (i := 202) rfl), lw_t2 (List.mem_of_getElem? (i := 203) rfl)⟩
theorem lw_p10 : lw_okq (⟨"WindCarver$Reader", "is", "(II)Z"⟩, 7) := ⟨⟨by decide +kernel, by decide +kernel⟩, lw_t2 (List.mem_of_getElem? (i := 153) rfl), lw_t2 (List.mem_of_getElem? (i := 206) rfl), lw_t2 (List.mem_of_getElem? (i := 207) rfl)⟩
theorem lw_p11 : lw_okq (⟨"WindCarver$Reader", "must", "(ZI)V"⟩, 7) := ⟨⟨by decide +kernel, by decide +kernel⟩, lw_t2 (List.mem_of_getElem? (i := 153) rfl), lw_t2 (List.mem_of_getElem? (i := 210) rfl), lw_t2 (List.mem_of_getElem? (i := 211) rfl)⟩
theorem lw_p12 : lw_okq (⟨"WindCarver$Reader", "figure", "(II)I"⟩, 7) := ⟨⟨by decide +kernel, by decide +kernel⟩, lw_t2 (List.mem_of_getElem? (i := 153) rfl), lw_t3 (List.mem_of_getElem? (i := 2) rfl), lw_t3 (List.mem_of_getElem? (i := 3) rfl)⟩
theorem lw_p13 : lw_okq (⟨"WindCarver$Reader", "sign", "(I)V"⟩, 7) := ⟨⟨by decide +kernel, by decide +kernel⟩, lw_t2 (List.mem_of_getElem? (i := 153) rfl), lw_t3 (List.mem_of_getElem? (i := 6) rfl), lw_t3 (List.mem_of_getElem? (i := 7) rfl)⟩
theorem lw_p14 : lw_okq (⟨"WindCarver$Reader", "work", "()V"⟩, 7) := ⟨⟨by decide +kernel, by decide +kernel⟩, lw_t2 (List.mem_of_getElem? (i := 153) rfl), lw_t3 (List.mem_of_getElem? (i := 97) rfl), lw_t3 (List.mem_of_getElem? (i := 98) rfl)⟩
theorem lw_p15 : lw_okq (⟨"WindCarver", "keep", "()V"⟩, 12) := ⟨⟨by decide +kernel, by decide +kernel⟩, lw_t1 (List.mem_of_getElem? (i := 33) rfl), lw_t3 (List.mem_of_getElem? (i := 176) rfl), lw_t3 (List.mem_of_getElem? (i := 177) rfl)⟩
def lw_privs_1 : List (MethodName × Nat) := [(⟨"java/lang/NullPointerException", "getExtendedNPEMessage", "()Ljava/lang/String;"⟩, 8), (⟨"java/lang/Throwable", "fillInStackTrace", "(I)Ljava/lang/Throwable;"⟩, 6), (⟨"WindCarver", "well", "(I)I"⟩, 12), (⟨"WindCarver", "found", "(I)I"⟩, 12), (⟨"WindCarver$Shelf", "put", "(II)I"⟩, 1), (⟨"WindCarver$Shelf", "at", "(I)I"⟩, 1), (⟨"WindCarver$Shelf", "many", "()I"⟩, 1), (⟨"WindCarver$Reader", "next", "()V"⟩, 7), (⟨"WindCarver$Reader", "look", "()I"⟩, 7), (⟨"WindCarver$Reader", "four", "(C[I)V"⟩, 7), (⟨"WindCarver$Reader", "is", "(II)Z"⟩, 7), (⟨"WindCarver$Reader", "must", "(ZI)V"⟩, 7), (⟨"WindCarver$Reader", "figure", "(II)I"⟩, 7), (⟨"WindCarver$Reader", "sign", "(I)V"⟩, 7), (⟨"WindCarver$Reader", "work", "()V"⟩, 7), (⟨"WindCarver", "keep", "()V"⟩, 12)]
theorem lw_r1 : ∀ q ∈ lw_privs_1, lw_okq q := List.forall_mem_cons.mpr ⟨lw_p0, List.forall_mem_cons.mpr ⟨lw_p1, List.forall_mem_cons.mpr ⟨lw_p2, List.forall_mem_cons.mpr ⟨lw_p3, List.forall_mem_cons.mpr ⟨lw_p4, List.forall_mem_cons.mpr ⟨lw_p5, List.forall_mem_cons.mpr ⟨lw_p6, List.forall_mem_cons.mpr ⟨lw_p7, List.forall_mem_cons.mpr ⟨lw_p8, List.forall_mem_cons.mpr ⟨lw_p9, List.forall_mem_cons.mpr ⟨lw_p10, List.forall_mem_cons.mpr ⟨lw_p11, List.forall_mem_cons.mpr ⟨lw_p12, List.forall_mem_cons.mpr ⟨lw_p13, List.forall_mem_cons.mpr ⟨lw_p14, List.forall_mem_cons.mpr ⟨lw_p15, fun _ h => absurd h List.not_mem_nil⟩⟩⟩⟩⟩⟩⟩⟩⟩⟩⟩⟩⟩⟩⟩⟩
theorem lw_p16 : lw_okq (⟨"WindCarver$Pass", "part", "(I)V"⟩, 9) := ⟨⟨by decide +kernel, by decide +kernel⟩, lw_t1 (List.mem_of_getElem? (i := 56) rfl), lw_t3 (List.mem_of_getElem? (i := 233) rfl), lw_t3 (List.mem_of_getElem? (i := 234) rfl)⟩
theorem lw_p17 : lw_okq (⟨"WindCarver$Pass", "come", "(III)V"⟩, 9) := ⟨⟨by decide +kernel, by decide +kernel⟩, lw_t1 (List.mem_of_getElem? (i := 56) rfl), lw_t4 (List.mem_of_getElem? (i := 32) rfl), lw_t4 (List.mem_of_getElem? (i := 33) rfl)⟩
theorem lw_p18 : lw_okq (⟨"WindCarver", "blown", "()LWindCarver$Pass;"⟩, 12) := ⟨⟨by decide +kernel, by decide +kernel⟩, lw_t1 (List.mem_of_getElem? (i := 33) rfl), lw_t4 (List.mem_of_getElem? (i := 54) rfl), lw_t4 (List.mem_of_getElem? (i := 55) rfl)⟩
theorem lw_p19 : lw_okq (⟨"WindCarver", "asNow", "()LWindCarver$Pass;"⟩, 12) := ⟨⟨by decide +kernel, by decide +kernel⟩, lw_t1 (List.mem_of_getElem? (i := 33) rfl), lw_t4 (List.mem_of_getElem? (i := 58) rfl), lw_t4 (List.mem_of_getElem? (i := 59) rfl)⟩
theorem lw_p20 : lw_okq (⟨"WindCarver", "in", "(I)LWindCarver$Pass;"⟩, 12) := ⟨⟨by decide +kernel, by decide +kernel⟩, lw_t1 (List.mem_of_getElem? (i := 33) rfl), lw_t4 (List.mem_of_getElem? (i := 80) rfl), lw_t4 (List.mem_of_getElem? (i := 81) rfl)⟩
theorem lw_p21 : lw_okq (⟨"WindCarver", "items", "(III)[I"⟩, 12) := ⟨⟨by decide +kernel, by decide +kernel⟩, lw_t1 (List.mem_of_getElem? (i := 33) rfl), lw_t4 (List.mem_of_getElem? (i := 104) rfl), lw_t4 (List.mem_of_getElem? (i := 105) rfl)⟩
theorem lw_p22 : lw_okq (⟨"WindCarver", "standsBy", "([I)I"⟩, 12) := ⟨⟨by decide +kernel, by decide +kernel⟩, lw_t1 (List.mem_of_getElem? (i := 33) rfl), lw_t4 (List.mem_of_getElem? (i := 116) rfl), lw_t4 (List.mem_of_getElem? (i := 117) rfl)⟩
theorem lw_p23 : lw_okq (⟨"WindCarver", "wallsBy", "(III)I"⟩, 12) := ⟨⟨by decide +kernel, by decide +kernel⟩, lw_t1 (List.mem_of_getElem? (i := 33) rfl), lw_t4 (List.mem_of_getElem? (i := 125) rfl), lw_t4 (List.mem_of_getElem? (i := 126) rfl)⟩
theorem lw_p24 : lw_okq (⟨"WindCarver", "feltBy", "(III)I"⟩, 12) := ⟨⟨by decide +kernel, by decide +kernel⟩, lw_t1 (List.mem_of_getElem? (i := 33) rfl), lw_t4 (List.mem_of_getElem? (i := 129) rfl), lw_t4 (List.mem_of_getElem? (i := 130) rfl)⟩
theorem lw_p25 : lw_okq (⟨"WindCarver", "hiddenBy", "(II[I)I"⟩, 12) := ⟨⟨by decide +kernel, by decide +kernel⟩, lw_t1 (List.mem_of_getElem? (i := 33) rfl), lw_t4 (List.mem_of_getElem? (i := 137) rfl), lw_t4 (List.mem_of_getElem? (i := 138) rfl)⟩
theorem lw_p26 : lw_okq (⟨"WindCarver", "isFelt", "(III)Z"⟩, 12) := ⟨⟨by decide +kernel, by decide +kernel⟩, lw_t1 (List.mem_of_getElem? (i := 33) rfl), lw_t4 (List.mem_of_getElem? (i := 152) rfl), lw_t4 (List.mem_of_getElem? (i := 153) rfl)⟩
theorem lw_p27 : lw_okq (⟨"WindCarver", "leavesNow", "()I"⟩, 12) := ⟨⟨by decide +kernel, by decide +kernel⟩, lw_t1 (List.mem_of_getElem? (i := 33) rfl), lw_t5 (List.mem_of_getElem? (i := 84) rfl), lw_t5 (List.mem_of_getElem? (i := 85) rfl)⟩
theorem lw_p28 : lw_okq (⟨"WindCarverModel", "find", "(I)I"⟩, 28) := ⟨⟨by decide +kernel, by decide +kernel⟩, lw_t5 (List.mem_of_getElem? (i := 92) rfl), lw_t5 (List.mem_of_getElem? (i := 197) rfl), lw_t5 (List.mem_of_getElem? (i := 198) rfl)⟩
theorem lw_p29 : lw_okq (⟨"WindCarverModel", "well", "(I)I"⟩, 28) := ⟨⟨by decide +kernel, by decide +kernel⟩, lw_t5 (List.mem_of_getElem? (i := 92) rfl), lw_t5 (List.mem_of_getElem? (i := 202) rfl), lw_t5 (List.mem_of_getElem? (i := 203) rfl)⟩
theorem lw_p30 : lw_okq (⟨"WindCarverModel", "readPass", "()Z"⟩, 28) := ⟨⟨by decide +kernel, by decide +kernel⟩, lw_t5 (List.mem_of_getElem? (i := 92) rfl), lw_t5 (List.mem_of_getElem? (i := 231) rfl), lw_t5 (List.mem_of_getElem? (i := 232) rfl)⟩
theorem lw_p31 : lw_okq (⟨"WindCarverModel", "nextToken", "()V"⟩, 28) := ⟨⟨by decide +kernel, by decide +kernel⟩, lw_t5 (List.mem_of_getElem? (i := 92) rfl), lw_t5 (List.mem_of_getElem? (i := 235) rfl), lw_t5 (List.mem_of_getElem? (i := 236) rfl)⟩
def lw_privs_2 : List (MethodName × Nat) := [(⟨"WindCarver$Pass", "part", "(I)V"⟩, 9), (⟨"WindCarver$Pass", "come", "(III)V"⟩, 9), (⟨"WindCarver", "blown", "()LWindCarver$Pass;"⟩, 12), (⟨"WindCarver", "asNow", "()LWindCarver$Pass;"⟩, 12), (⟨"WindCarver", "in", "(I)LWindCarver$Pass;"⟩, 12), (⟨"WindCarver", "items", "(III)[I"⟩, 12), (⟨"WindCarver", "standsBy", "([I)I"⟩, 12), (⟨"WindCarver", "wallsBy", "(III)I"⟩, 12), (⟨"WindCarver", "feltBy", "(III)I"⟩, 12), (⟨"WindCarver", "hiddenBy", "(II[I)I"⟩, 12), (⟨"WindCarver", "isFelt", "(III)Z"⟩, 12), (⟨"WindCarver", "leavesNow", "()I"⟩, 12), (⟨"WindCarverModel", "find", "(I)I"⟩, 28), (⟨"WindCarverModel", "well", "(I)I"⟩, 28), (⟨"WindCarverModel", "readPass", "()Z"⟩, 28), (⟨"WindCarverModel", "nextToken", "()V"⟩, 28)]
theorem lw_r2 : ∀ q ∈ lw_privs_2, lw_okq q := List.forall_mem_cons.mpr ⟨lw_p16, List.forall_mem_cons.mpr ⟨lw_p17, List.forall_mem_cons.mpr ⟨lw_p18, List.forall_mem_cons.mpr ⟨lw_p19, List.forall_mem_cons.mpr ⟨lw_p20, List.forall_mem_cons.mpr ⟨lw_p21, List.forall_mem_cons.mpr ⟨lw_p22, List.forall_mem_cons.mpr ⟨lw_p23, List.forall_mem_cons.mpr ⟨lw_p24, List.forall_mem_cons.mpr ⟨lw_p25, List.forall_mem_cons.mpr ⟨lw_p26, List.forall_mem_cons.mpr ⟨lw_p27, List.forall_mem_cons.mpr ⟨lw_p28, List.forall_mem_cons.mpr ⟨lw_p29, List.forall_mem_cons.mpr ⟨lw_p30, List.forall_mem_cons.mpr ⟨lw_p31, fun _ h => absurd h List.not_mem_nil⟩⟩⟩⟩⟩⟩⟩⟩⟩⟩⟩⟩⟩⟩⟩⟩
theorem lw_p32 : lw_okq (⟨"WindCarverModel", "readFour", "(II)Z"⟩, 28) := ⟨⟨by decide +kernel, by decide +kernel⟩, lw_t5 (List.mem_of_getElem? (i := 92) rfl), lw_t6 (List.mem_of_getElem? (i := 3) rfl), lw_t6 (List.mem_of_getElem? (i := 4) rfl)⟩
theorem lw_p33 : lw_okq (⟨"WindCarverModel", "takes", "(I)Z"⟩, 28) := ⟨⟨by decide +kernel, by decide +kernel⟩, lw_t5 (List.mem_of_getElem? (i := 92) rfl), lw_t6 (List.mem_of_getElem? (i := 7) rfl), lw_t6 (List.mem_of_getElem? (i := 8) rfl)⟩
theorem lw_p34 : lw_okq (⟨"WindCarverModel", "isLetter", "(I)Z"⟩, 28) := ⟨⟨by decide +kernel, by decide +kernel⟩, lw_t5 (List.mem_of_getElem? (i := 92) rfl), lw_t6 (List.mem_of_getElem? (i := 11) rfl), lw_t6 (List.mem_of_getElem? (i := 12) rfl)⟩
theorem lw_p35 : lw_okq (⟨"WindCarverModel", "faults", "(I)Z"⟩, 28) := ⟨⟨by decide +kernel, by decide +kernel⟩, lw_t5 (List.mem_of_getElem? (i := 92) rfl), lw_t6 (List.mem_of_getElem? (i := 15) rfl), lw_t6 (List.mem_of_getElem? (i := 16) rfl)⟩
theorem lw_p36 : lw_okq (⟨"WindCarverModel", "takesNumber", "(IIII)Z"⟩, 28) := ⟨⟨by decide +kernel, by decide +kernel⟩, lw_t5 (List.mem_of_getElem? (i := 92) rfl), lw_t6 (List.mem_of_getElem? (i := 19) rfl), lw_t6 (List.mem_of_getElem? (i := 20) rfl)⟩
theorem lw_p37 : lw_okq (⟨"WindCarverModel", "readWork", "(I)Z"⟩, 28) := ⟨⟨by decide +kernel, by decide +kernel⟩, lw_t5 (List.mem_of_getElem? (i := 92) rfl), lw_t6 (List.mem_of_getElem? (i := 23) rfl), lw_t6 (List.mem_of_getElem? (i := 24) rfl)⟩
theorem lw_p38 : lw_okq (⟨"WindCarverModel", "isWork", "(I)Z"⟩, 28) := ⟨⟨by decide +kernel, by decide +kernel⟩, lw_t5 (List.mem_of_getElem? (i := 92) rfl), lw_t6 (List.mem_of_getElem? (i := 43) rfl), lw_t6 (List.mem_of_getElem? (i := 44) rfl)⟩
theorem lw_p39 : lw_okq (⟨"WindCarverModel", "workMany", "()I"⟩, 28) := ⟨⟨by decide +kernel, by decide +kernel⟩, lw_t5 (List.mem_of_getElem? (i := 92) rfl), lw_t6 (List.mem_of_getElem? (i := 47) rfl), lw_t6 (List.mem_of_getElem? (i := 48) rfl)⟩
theorem lw_p40 : lw_okq (⟨"WindCarverModel", "note", "()V"⟩, 28) := ⟨⟨by decide +kernel, by decide +kernel⟩, lw_t5 (List.mem_of_getElem? (i := 92) rfl), lw_t6 (List.mem_of_getElem? (i := 51) rfl), lw_t6 (List.mem_of_getElem? (i := 52) rfl)⟩
theorem lw_p41 : lw_okq (⟨"WindCarverModel", "clear", "(I)V"⟩, 28) := ⟨⟨by decide +kernel, by decide +kernel⟩, lw_t5 (List.mem_of_getElem? (i := 92) rfl), lw_t6 (List.mem_of_getElem? (i := 59) rfl), lw_t6 (List.mem_of_getElem? (i := 60) rfl)⟩
theorem lw_p42 : lw_okq (⟨"WindCarverModel", "oneHour", "()V"⟩, 28) := ⟨⟨by decide +kernel, by decide +kernel⟩, lw_t5 (List.mem_of_getElem? (i := 92) rfl), lw_t6 (List.mem_of_getElem? (i := 81) rfl), lw_t6 (List.mem_of_getElem? (i := 82) rfl)⟩
theorem lw_p43 : lw_okq (⟨"WindCarverModel", "blow", "()V"⟩, 28) := ⟨⟨by decide +kernel, by decide +kernel⟩, lw_t5 (List.mem_of_getElem? (i := 92) rfl), lw_t6 (List.mem_of_getElem? (i := 85) rfl), lw_t6 (List.mem_of_getElem? (i := 86) rfl)⟩
theorem lw_p44 : lw_okq (⟨"WindCarverModel", "goes", "(III)V"⟩, 28) := ⟨⟨by decide +kernel, by decide +kernel⟩, lw_t5 (List.mem_of_getElem? (i := 92) rfl), lw_t6 (List.mem_of_getElem? (i := 89) rfl), lw_t6 (List.mem_of_getElem? (i := 90) rfl)⟩
theorem lw_p45 : lw_okq (⟨"WindCarverModel", "feltNow", "(I)I"⟩, 28) := ⟨⟨by decide +kernel, by decide +kernel⟩, lw_t5 (List.mem_of_getElem? (i := 92) rfl), lw_t6 (List.mem_of_getElem? (i := 101) rfl), lw_t6 (List.mem_of_getElem? (i := 102) rfl)⟩
theorem lw_p46 : lw_okq (⟨"WindCarverModel", "blowIn", "(I)V"⟩, 28) := ⟨⟨by decide +kernel, by decide +kernel⟩, lw_t5 (List.mem_of_getElem? (i := 92) rfl), lw_t6 (List.mem_of_getElem? (i := 115) rfl), lw_t6 (List.mem_of_getElem? (i := 116) rfl)⟩
theorem lw_p47 : lw_okq (⟨"WindCarverModel", "putAside", "()V"⟩, 28) := ⟨⟨by decide +kernel, by decide +kernel⟩, lw_t5 (List.mem_of_getElem? (i := 92) rfl), lw_t6 (List.mem_of_getElem? (i := 119) rfl), lw_t6 (List.mem_of_getElem? (i := 120) rfl)⟩
def lw_privs_3 : List (MethodName × Nat) := [(⟨"WindCarverModel", "readFour", "(II)Z"⟩, 28), (⟨"WindCarverModel", "takes", "(I)Z"⟩, 28), (⟨"WindCarverModel", "isLetter", "(I)Z"⟩, 28), (⟨"WindCarverModel", "faults", "(I)Z"⟩, 28), (⟨"WindCarverModel", "takesNumber", "(IIII)Z"⟩, 28), (⟨"WindCarverModel", "readWork", "(I)Z"⟩, 28), (⟨"WindCarverModel", "isWork", "(I)Z"⟩, 28), (⟨"WindCarverModel", "workMany", "()I"⟩, 28), (⟨"WindCarverModel", "note", "()V"⟩, 28), (⟨"WindCarverModel", "clear", "(I)V"⟩, 28), (⟨"WindCarverModel", "oneHour", "()V"⟩, 28), (⟨"WindCarverModel", "blow", "()V"⟩, 28), (⟨"WindCarverModel", "goes", "(III)V"⟩, 28), (⟨"WindCarverModel", "feltNow", "(I)I"⟩, 28), (⟨"WindCarverModel", "blowIn", "(I)V"⟩, 28), (⟨"WindCarverModel", "putAside", "()V"⟩, 28)]
theorem lw_r3 : ∀ q ∈ lw_privs_3, lw_okq q := List.forall_mem_cons.mpr ⟨lw_p32, List.forall_mem_cons.mpr ⟨lw_p33, List.forall_mem_cons.mpr ⟨lw_p34, List.forall_mem_cons.mpr ⟨lw_p35, List.forall_mem_cons.mpr ⟨lw_p36, List.forall_mem_cons.mpr ⟨lw_p37, List.forall_mem_cons.mpr ⟨lw_p38, List.forall_mem_cons.mpr ⟨lw_p39, List.forall_mem_cons.mpr ⟨lw_p40, List.forall_mem_cons.mpr ⟨lw_p41, List.forall_mem_cons.mpr ⟨lw_p42, List.forall_mem_cons.mpr ⟨lw_p43, List.forall_mem_cons.mpr ⟨lw_p44, List.forall_mem_cons.mpr ⟨lw_p45, List.forall_mem_cons.mpr ⟨lw_p46, List.forall_mem_cons.mpr ⟨lw_p47, fun _ h => absurd h List.not_mem_nil⟩⟩⟩⟩⟩⟩⟩⟩⟩⟩⟩⟩⟩⟩⟩⟩
theorem lw_p48 : lw_okq (⟨"WindCarverModel", "takeBack", "()V"⟩, 28) := ⟨⟨by decide +kernel, by decide +kernel⟩, lw_t5 (List.mem_of_getElem? (i := 92) rfl), lw_t6 (List.mem_of_getElem? (i := 123) rfl), lw_t6 (List.mem_of_getElem? (i := 124) rfl)⟩
theorem lw_p49 : lw_okq (⟨"WindCarverModel", "lacks", "(III)I"⟩, 28) := ⟨⟨by decide +kernel, by decide +kernel⟩, lw_t5 (List.mem_of_getElem? (i := 92) rfl), lw_t6 (List.mem_of_getElem? (i := 146) rfl), lw_t6 (List.mem_of_getElem? (i := 147) rfl)⟩
theorem lw_p50 : lw_okq (⟨"WindCarverModel", "feltWith", "(III)I"⟩, 28) := ⟨⟨by decide +kernel, by decide +kernel⟩, lw_t5 (List.mem_of_getElem? (i := 92) rfl), lw_t6 (List.mem_of_getElem? (i := 155) rfl), lw_t6 (List.mem_of_getElem? (i := 156) rfl)⟩
theorem lw_p51 : lw_okq (⟨"WindCarverModel", "sizeOf", "(I)I"⟩, 28) := ⟨⟨by decide +kernel, by decide +kernel⟩, lw_t5 (List.mem_of_getElem? (i := 92) rfl), lw_t6 (List.mem_of_getElem? (i := 195) rfl), lw_t6 (List.mem_of_getElem? (i := 196) rfl)⟩
theorem lw_p52 : lw_okq (⟨"WindCarverModel", "begin", "(I)V"⟩, 28) := ⟨⟨by decide +kernel, by decide +kernel⟩, lw_t5 (List.mem_of_getElem? (i := 92) rfl), lw_t6 (List.mem_of_getElem? (i := 199) rfl), lw_t6 (List.mem_of_getElem? (i := 200) rfl)⟩
theorem lw_p53 : lw_okq (⟨"WindCarverModel", "wallSize", "(I)I"⟩, 28) := ⟨⟨by decide +kernel, by decide +kernel⟩, lw_t5 (List.mem_of_getElem? (i := 92) rfl), lw_t6 (List.mem_of_getElem? (i := 203) rfl), lw_t6 (List.mem_of_getElem? (i := 204) rfl)⟩
theorem lw_p54 : lw_okq (⟨"WindCarverModel", "lent", "(II)I"⟩, 28) := ⟨⟨by decide +kernel, by decide +kernel⟩, lw_t5 (List.mem_of_getElem? (i := 92) rfl), lw_t6 (List.mem_of_getElem? (i := 207) rfl), lw_t6 (List.mem_of_getElem? (i := 208) rfl)⟩
theorem lw_p55 : lw_okq (⟨"WindCarverModel", "markOf", "(I)I"⟩, 28) := ⟨⟨by decide +kernel, by decide +kernel⟩, lw_t5 (List.mem_of_getElem? (i := 92) rfl), lw_t6 (List.mem_of_getElem? (i := 211) rfl), lw_t6 (List.mem_of_getElem? (i := 212) rfl)⟩
theorem lw_p56 : lw_okq (⟨"WindCarverModel", "wallMark", "(I)I"⟩, 28) := ⟨⟨by decide +kernel, by decide +kernel⟩, lw_t5 (List.mem_of_getElem? (i := 92) rfl), lw_t6 (List.mem_of_getElem? (i := 215) rfl), lw_t6 (List.mem_of_getElem? (i := 216) rfl)⟩
theorem lw_p57 : lw_okq (⟨"WindCarverModel", "sizeOfHand", "(I)I"⟩, 28) := ⟨⟨by decide +kernel, by decide +kernel⟩, lw_t5 (List.mem_of_getElem? (i := 92) rfl), lw_t6 (List.mem_of_getElem? (i := 219) rfl), lw_t6 (List.mem_of_getElem? (i := 220) rfl)⟩
theorem lw_p58 : lw_okq (⟨"WindCarverModel", "handSize", "(I)I"⟩, 28) := ⟨⟨by decide +kernel, by decide +kernel⟩, lw_t5 (List.mem_of_getElem? (i := 92) rfl), lw_t6 (List.mem_of_getElem? (i := 223) rfl), lw_t6 (List.mem_of_getElem? (i := 224) rfl)⟩
def lw_privs_4 : List (MethodName × Nat) := [(⟨"WindCarverModel", "takeBack", "()V"⟩, 28), (⟨"WindCarverModel", "lacks", "(III)I"⟩, 28), (⟨"WindCarverModel", "feltWith", "(III)I"⟩, 28), (⟨"WindCarverModel", "sizeOf", "(I)I"⟩, 28), (⟨"WindCarverModel", "begin", "(I)V"⟩, 28), (⟨"WindCarverModel", "wallSize", "(I)I"⟩, 28), (⟨"WindCarverModel", "lent", "(II)I"⟩, 28), (⟨"WindCarverModel", "markOf", "(I)I"⟩, 28), (⟨"WindCarverModel", "wallMark", "(I)I"⟩, 28), (⟨"WindCarverModel", "sizeOfHand", "(I)I"⟩, 28), (⟨"WindCarverModel", "handSize", "(I)I"⟩, 28)]
theorem lw_r4 : ∀ q ∈ lw_privs_4, lw_okq q := List.forall_mem_cons.mpr ⟨lw_p48, List.forall_mem_cons.mpr ⟨lw_p49, List.forall_mem_cons.mpr ⟨lw_p50, List.forall_mem_cons.mpr ⟨lw_p51, List.forall_mem_cons.mpr ⟨lw_p52, List.forall_mem_cons.mpr ⟨lw_p53, List.forall_mem_cons.mpr ⟨lw_p54, List.forall_mem_cons.mpr ⟨lw_p55, List.forall_mem_cons.mpr ⟨lw_p56, List.forall_mem_cons.mpr ⟨lw_p57, List.forall_mem_cons.mpr ⟨lw_p58, fun _ h => absurd h List.not_mem_nil⟩⟩⟩⟩⟩⟩⟩⟩⟩⟩⟩
def lw_privs : List (MethodName × Nat) := lw_privs_1 ++ (lw_privs_2 ++ (lw_privs_3 ++ (lw_privs_4)))
def lw_tbl : List Cond := k2_sels lw_privs ++ tables_1
theorem lw_privs_ok : ∀ q ∈ lw_privs, lw_okq q := by
  show ∀ q ∈ lw_privs_1 ++ (lw_privs_2 ++ (lw_privs_3 ++ (lw_privs_4))), lw_okq q
  exact List.forall_mem_append.mpr ⟨lw_r1, List.forall_mem_append.mpr ⟨lw_r2, List.forall_mem_append.mpr ⟨lw_r3, lw_r4⟩⟩⟩
-- ===== ONE list of words for every method: the tables' words that hold all through a run =====
def lw_all : List Cond := lw_tbl.filter goodWord
/-- a word of the tables by its place: claim/WORDS.tsv -/
theorem lw_w {w : Cond} (i : Nat) (h : lw_tbl[i]? = some w) (g : goodWord w = true) : w ∈ lw_all := List.mem_filter.mpr ⟨List.mem_of_getElem? h, g⟩
theorem lw_all_tbl {w : Cond} (h : w ∈ lw_all) : w ∈ lw_tbl := (List.mem_filter.mp h).1
theorem lw_self : GoodIn lw_all lw_all := fun w h => ⟨h, good_of_word (List.mem_filter.mp h).2⟩
/-- a class's field words, by their places -/
theorem lw_in (ws : List Cond) (ps : List Nat) (hp : ws = ps.filterMap (fun i => lw_tbl[i]?)) (hg : ws.all goodWord = true) : ∀ w ∈ ws, w ∈ lw_all := by
  intro w h
  have h1 := List.all_eq_true.mp hg w h
  rw [hp] at h
  obtain ⟨i, -, hi⟩ := List.mem_filterMap.mp h
  exact lw_w i hi h1
/-- the words of a contract for the method y with code b, L locals, answer r -/
abbrev ws_ (y : MethodName) (b : ByteArray) (L : Nat) (r : Option FieldType) : List Cond := Cond.code y b L r :: lw_all
theorem lw_meth {y : MethodName} {b : ByteArray} {L : Nat} {r : Option FieldType} (h : Cond.code y b L r ∈ lw_all) : GoodIn lw_all (ws_ y b L r) := by
  intro w hw
  rcases List.mem_cons.mp hw with e | e
  · rw [e]
    exact lw_self _ h
  · exact lw_self _ e
theorem lw_app {a c : List Cond} (ha : ∀ w ∈ a, w ∈ lw_all) (hc : GoodIn lw_all c) : GoodIn lw_all (a ++ c) := by
  intro w hw
  rcases List.mem_append.mp hw with e | e
  · exact lw_self w (ha w e)
  · exact hc w e
/-- what a call through an object asks: cwV n hts (lw_V ..) -/
theorem lw_V {own : String} {idx : Nat} {C : String} {y : MethodName} {b : ByteArray} {L : Nat} {r : Option FieldType} (h1 : Cond.methodLink own idx y ∈ lw_all) (h2 : Cond.instanceMethod y ∈ lw_all) (h3 : Cond.selects C y y ∈ lw_all) (h4 : Cond.initialized C ∈ lw_all) (h5 : Cond.code y b L r ∈ lw_all) : GoodIn lw_all (wsV own idx C y (ws_ y b L r)) := by
  refine lw_app ?_ (lw_meth h5)
  intro w hw
  simp only [List.mem_cons, List.not_mem_nil, or_false] at hw
  rcases hw with e | e | e | e
  · rw [e]; exact h1
  · rw [e]; exact h2
  · rw [e]; exact h3
  · rw [e]; exact h4
/-- what a static call asks: va_cwS n hts (lw_S ..) -/
theorem lw_S {own : String} {idx : Nat} {y : MethodName} {b : ByteArray} {L : Nat} {r : Option FieldType} (h1 : Cond.methodLink own idx y ∈ lw_all) (h2 : Cond.static y ∈ lw_all) (h3 : Cond.initialized y.cls ∈ lw_all) (h4 : Cond.code y b L r ∈ lw_all) : GoodIn lw_all (va_wsS own idx y (ws_ y b L r)) := by
  refine lw_app ?_ (lw_meth h4)
  intro w hw
  simp only [List.mem_cons, List.not_mem_nil, or_false] at hw
  rcases hw with e | e | e
  · rw [e]; exact h1
  · rw [e]; exact h2
  · rw [e]; exact h3
/-- the words of a contract for a method WITH HANDLERS (hh: its table) -/
abbrev wsW_ (y : MethodName) (b : ByteArray) (L : Nat) (r : Option FieldType) (hh : List (Nat × Nat × Nat × Nat)) : List Cond := Cond.codeWith y b L r hh :: lw_all
theorem lw_methW {y : MethodName} {b : ByteArray} {L : Nat} {r : Option FieldType} {hh : List (Nat × Nat × Nat × Nat)} (h : Cond.codeWith y b L r hh ∈ lw_all) : GoodIn lw_all (wsW_ y b L r hh) := by
  intro w hw
  rcases List.mem_cons.mp hw with e | e
  · rw [e]
    exact lw_self _ h
  · exact lw_self _ e
/-- any list of words by their places (lw_in), good -/
theorem lw_good {ws : List Cond} (h : ∀ w ∈ ws, w ∈ lw_all) : GoodIn lw_all ws := fun w hw => lw_self w (h w hw)
/-- what a call of a method with handlers asks: vx_cwVW n hts (lw_VW ..), vx_cwSW n hts (lw_SW ..) -/
theorem lw_VW {own : String} {idx : Nat} {C : String} {y : MethodName} {b : ByteArray} {L : Nat} {r : Option FieldType} {hh : List (Nat × Nat × Nat × Nat)} (h1 : Cond.methodLink own idx y ∈ lw_all) (h2 : Cond.instanceMethod y ∈ lw_all) (h3 : Cond.selects C y y ∈ lw_all) (h4 : Cond.initialized C ∈ lw_all) (h5 : Cond.codeWith y b L r hh ∈ lw_all) : GoodIn lw_all (wsV own idx C y (wsW_ y b L r hh)) := by
  refine lw_app ?_ (lw_methW h5)
  intro w hw
  simp only [List.mem_cons, List.not_mem_nil, or_false] at hw
  rcases hw with e | e | e | e
  · rw [e]; exact h1
  · rw [e]; exact h2
  · rw [e]; exact h3
  · rw [e]; exact h4
theorem lw_SW {own : String} {idx : Nat} {y : MethodName} {b : ByteArray} {L : Nat} {r : Option FieldType} {hh : List (Nat × Nat × Nat × Nat)} (h1 : Cond.methodLink own idx y ∈ lw_all) (h2 : Cond.static y ∈ lw_all) (h3 : Cond.initialized y.cls ∈ lw_all) (h4 : Cond.codeWith y b L r hh ∈ lw_all) : GoodIn lw_all (va_wsS own idx y (wsW_ y b L r hh)) := by
  refine lw_app ?_ (lw_methW h4)
  intro w hw
  simp only [List.mem_cons, List.not_mem_nil, or_false] at hw
  rcases hw with e | e | e
  · rw [e]; exact h1
  · rw [e]; exact h2
  · rw [e]; exact h3
/-- a word by its place in its run of the tables -/
theorem lw_at {r : List Cond} (hr : ∀ w ∈ r, w ∈ lw_tbl) {w : Cond} (i : Nat) (h : r[i]? = some w) : w ∈ lw_tbl := hr w (List.mem_of_getElem? h)
theorem lw_g {w : Cond} (h : w ∈ lw_tbl) (g : goodWord w = true) : w ∈ lw_all := List.mem_filter.mpr ⟨h, g⟩
theorem lw_ms : ∀ w ∈ k2_sels lw_privs, w ∈ lw_tbl := fun w h => show w ∈ k2_sels lw_privs ++ tables_1 from List.mem_append_left _ h
theorem lw_m1 : ∀ w ∈ tables_1_1, w ∈ lw_tbl := fun w h => show w ∈ k2_sels lw_privs ++ tables_1 from List.mem_append_right (k2_sels lw_privs) (show w ∈ tables_1 from List.mem_append_left _ h)
theorem lw_m2 : ∀ w ∈ tables_1_2, w ∈ lw_tbl := fun w h => show w ∈ k2_sels lw_privs ++ tables_1 from List.mem_append_right (k2_sels lw_privs) (show w ∈ tables_1 from List.mem_append_right _ (List.mem_append_left _ h))
theorem lw_m3 : ∀ w ∈ tables_1_3, w ∈ lw_tbl := fun w h => show w ∈ k2_sels lw_privs ++ tables_1 from List.mem_append_right (k2_sels lw_privs) (show w ∈ tables_1 from List.mem_append_right _ (List.mem_append_right _ (List.mem_append_left _ h)))
theorem lw_m4 : ∀ w ∈ tables_1_4, w ∈ lw_tbl := fun w h => show w ∈ k2_sels lw_privs ++ tables_1 from List.mem_append_right (k2_sels lw_privs) (show w ∈ tables_1 from List.mem_append_right _ (List.mem_append_right _ (List.mem_append_right _ (List.mem_append_left _ h))))
theorem lw_m5 : ∀ w ∈ tables_1_5, w ∈ lw_tbl := fun w h => show w ∈ k2_sels lw_privs ++ tables_1 from List.mem_append_right (k2_sels lw_privs) (show w ∈ tables_1 from List.mem_append_right _ (List.mem_append_right _ (List.mem_append_right _ (List.mem_append_right _ (List.mem_append_left _ h)))))
theorem lw_m6 : ∀ w ∈ tables_1_6, w ∈ lw_tbl := fun w h => show w ∈ k2_sels lw_privs ++ tables_1 from List.mem_append_right (k2_sels lw_privs) (show w ∈ tables_1 from List.mem_append_right _ (List.mem_append_right _ (List.mem_append_right _ (List.mem_append_right _ (List.mem_append_right _ (List.mem_append_left _ h))))))
theorem lw_m7 : ∀ w ∈ tables_1_7, w ∈ lw_tbl := fun w h => show w ∈ k2_sels lw_privs ++ tables_1 from List.mem_append_right (k2_sels lw_privs) (show w ∈ tables_1 from List.mem_append_right _ (List.mem_append_right _ (List.mem_append_right _ (List.mem_append_right _ (List.mem_append_right _ (List.mem_append_right _ h))))))
theorem qs0 : (Cond.selects "java/lang/NullPointerException" ⟨"java/lang/NullPointerException", "getExtendedNPEMessage", "()Ljava/lang/String;"⟩ ⟨"java/lang/NullPointerException", "getExtendedNPEMessage", "()Ljava/lang/String;"⟩) ∈ lw_all := lw_g (lw_at lw_ms 0 rfl) rfl
theorem qs1 : (Cond.selects "java/lang/Throwable" ⟨"java/lang/Throwable", "fillInStackTrace", "(I)Ljava/lang/Throwable;"⟩ ⟨"java/lang/Throwable", "fillInStackTrace", "(I)Ljava/lang/Throwable;"⟩) ∈ lw_all := lw_g (lw_at lw_ms 1 rfl) rfl
theorem qs2 : (Cond.selects "WindCarver" ⟨"WindCarver", "well", "(I)I"⟩ ⟨"WindCarver", "well", "(I)I"⟩) ∈ lw_all := lw_g (lw_at lw_ms 2 rfl) rfl
theorem qs3 : (Cond.selects "WindCarver" ⟨"WindCarver", "found", "(I)I"⟩ ⟨"WindCarver", "found", "(I)I"⟩) ∈ lw_all := lw_g (lw_at lw_ms 3 rfl) rfl
theorem qs4 : (Cond.selects "WindCarver$Shelf" ⟨"WindCarver$Shelf", "put", "(II)I"⟩ ⟨"WindCarver$Shelf", "put", "(II)I"⟩) ∈ lw_all := lw_g (lw_at lw_ms 4 rfl) rfl
theorem qs5 : (Cond.selects "WindCarver$Shelf" ⟨"WindCarver$Shelf", "at", "(I)I"⟩ ⟨"WindCarver$Shelf", "at", "(I)I"⟩) ∈ lw_all := lw_g (lw_at lw_ms 5 rfl) rfl
theorem qs6 : (Cond.selects "WindCarver$Shelf" ⟨"WindCarver$Shelf", "many", "()I"⟩ ⟨"WindCarver$Shelf", "many", "()I"⟩) ∈ lw_all := lw_g (lw_at lw_ms 6 rfl) rfl
theorem qs7 : (Cond.selects "WindCarver$Reader" ⟨"WindCarver$Reader", "next", "()V"⟩ ⟨"WindCarver$Reader", "next", "()V"⟩) ∈ lw_all := lw_g (lw_at lw_ms 7 rfl) rfl
theorem qs8 : (Cond.selects "WindCarver$Reader" ⟨"WindCarver$Reader", "look", "()I"⟩ ⟨"WindCarver$Reader", "look", "()I"⟩) ∈ lw_all := lw_g (lw_at lw_ms 8 rfl) rfl
theorem qs9 : (Cond.selects "WindCarver$Reader" ⟨"WindCarver$Reader", "four", "(C[I)V"⟩ ⟨"WindCarver$Reader", "four", "(C[I)V"⟩) ∈ lw_all := lw_g (lw_at lw_ms 9 rfl) rfl
theorem qs10 : (Cond.selects "WindCarver$Reader" ⟨"WindCarver$Reader", "is", "(II)Z"⟩ ⟨"WindCarver$Reader", "is", "(II)Z"⟩) ∈ lw_all := lw_g (lw_at lw_ms 10 rfl) rfl
theorem qs11 : (Cond.selects "WindCarver$Reader" ⟨"WindCarver$Reader", "must", "(ZI)V"⟩ ⟨"WindCarver$Reader", "must", "(ZI)V"⟩) ∈ lw_all := lw_g (lw_at lw_ms 11 rfl) rfl
theorem qs12 : (Cond.selects "WindCarver$Reader" ⟨"WindCarver$Reader", "figure", "(II)I"⟩ ⟨"WindCarver$Reader", "figure", "(II)I"⟩) ∈ lw_all := lw_g (lw_at lw_ms 12 rfl) rfl
theorem qs13 : (Cond.selects "WindCarver$Reader" ⟨"WindCarver$Reader", "sign", "(I)V"⟩ ⟨"WindCarver$Reader", "sign", "(I)V"⟩) ∈ lw_all := lw_g (lw_at lw_ms 13 rfl) rfl
theorem qs14 : (Cond.selects "WindCarver$Reader" ⟨"WindCarver$Reader", "work", "()V"⟩ ⟨"WindCarver$Reader", "work", "()V"⟩) ∈ lw_all := lw_g (lw_at lw_ms 14 rfl) rfl
theorem qs15 : (Cond.selects "WindCarver" ⟨"WindCarver", "keep", "()V"⟩ ⟨"WindCarver", "keep", "()V"⟩) ∈ lw_all := lw_g (lw_at lw_ms 15 rfl) rfl
theorem qs16 : (Cond.selects "WindCarver$Pass" ⟨"WindCarver$Pass", "part", "(I)V"⟩ ⟨"WindCarver$Pass", "part", "(I)V"⟩) ∈ lw_all := lw_g (lw_at lw_ms 16 rfl) rfl
theorem qs17 : (Cond.selects "WindCarver$Pass" ⟨"WindCarver$Pass", "come", "(III)V"⟩ ⟨"WindCarver$Pass", "come", "(III)V"⟩) ∈ lw_all := lw_g (lw_at lw_ms 17 rfl) rfl
theorem qs18 : (Cond.selects "WindCarver" ⟨"WindCarver", "blown", "()LWindCarver$Pass;"⟩ ⟨"WindCarver", "blown", "()LWindCarver$Pass;"⟩) ∈ lw_all := lw_g (lw_at lw_ms 18 rfl) rfl
theorem qs19 : (Cond.selects "WindCarver" ⟨"WindCarver", "asNow", "()LWindCarver$Pass;"⟩ ⟨"WindCarver", "asNow", "()LWindCarver$Pass;"⟩) ∈ lw_all := lw_g (lw_at lw_ms 19 rfl) rfl
theorem qs20 : (Cond.selects "WindCarver" ⟨"WindCarver", "in", "(I)LWindCarver$Pass;"⟩ ⟨"WindCarver", "in", "(I)LWindCarver$Pass;"⟩) ∈ lw_all := lw_g (lw_at lw_ms 20 rfl) rfl
theorem qs21 : (Cond.selects "WindCarver" ⟨"WindCarver", "items", "(III)[I"⟩ ⟨"WindCarver", "items", "(III)[I"⟩) ∈ lw_all := lw_g (lw_at lw_ms 21 rfl) rfl
theorem qs22 : (Cond.selects "WindCarver" ⟨"WindCarver", "standsBy", "([I)I"⟩ ⟨"WindCarver", "standsBy", "([I)I"⟩) ∈ lw_all := lw_g (lw_at lw_ms 22 rfl) rfl
theorem qs23 : (Cond.selects "WindCarver" ⟨"WindCarver", "wallsBy", "(III)I"⟩ ⟨"WindCarver", "wallsBy", "(III)I"⟩) ∈ lw_all := lw_g (lw_at lw_ms 23 rfl) rfl
theorem qs24 : (Cond.selects "WindCarver" ⟨"WindCarver", "feltBy", "(III)I"⟩ ⟨"WindCarver", "feltBy", "(III)I"⟩) ∈ lw_all := lw_g (lw_at lw_ms 24 rfl) rfl
theorem qs25 : (Cond.selects "WindCarver" ⟨"WindCarver", "hiddenBy", "(II[I)I"⟩ ⟨"WindCarver", "hiddenBy", "(II[I)I"⟩) ∈ lw_all := lw_g (lw_at lw_ms 25 rfl) rfl
theorem qs26 : (Cond.selects "WindCarver" ⟨"WindCarver", "isFelt", "(III)Z"⟩ ⟨"WindCarver", "isFelt", "(III)Z"⟩) ∈ lw_all := lw_g (lw_at lw_ms 26 rfl) rfl
theorem qs27 : (Cond.selects "WindCarver" ⟨"WindCarver", "leavesNow", "()I"⟩ ⟨"WindCarver", "leavesNow", "()I"⟩) ∈ lw_all := lw_g (lw_at lw_ms 27 rfl) rfl
theorem qs28 : (Cond.selects "WindCarverModel" ⟨"WindCarverModel", "find", "(I)I"⟩ ⟨"WindCarverModel", "find", "(I)I"⟩) ∈ lw_all := lw_g (lw_at lw_ms 28 rfl) rfl
theorem qs29 : (Cond.selects "WindCarverModel" ⟨"WindCarverModel", "well", "(I)I"⟩ ⟨"WindCarverModel", "well", "(I)I"⟩) ∈ lw_all := lw_g (lw_at lw_ms 29 rfl) rfl
theorem qs30 : (Cond.selects "WindCarverModel" ⟨"WindCarverModel", "readPass", "()Z"⟩ ⟨"WindCarverModel", "readPass", "()Z"⟩) ∈ lw_all := lw_g (lw_at lw_ms 30 rfl) rfl
theorem qs31 : (Cond.selects "WindCarverModel" ⟨"WindCarverModel", "nextToken", "()V"⟩ ⟨"WindCarverModel", "nextToken", "()V"⟩) ∈ lw_all := lw_g (lw_at lw_ms 31 rfl) rfl
theorem qs32 : (Cond.selects "WindCarverModel" ⟨"WindCarverModel", "readFour", "(II)Z"⟩ ⟨"WindCarverModel", "readFour", "(II)Z"⟩) ∈ lw_all := lw_g (lw_at lw_ms 32 rfl) rfl
theorem qs33 : (Cond.selects "WindCarverModel" ⟨"WindCarverModel", "takes", "(I)Z"⟩ ⟨"WindCarverModel", "takes", "(I)Z"⟩) ∈ lw_all := lw_g (lw_at lw_ms 33 rfl) rfl
theorem qs34 : (Cond.selects "WindCarverModel" ⟨"WindCarverModel", "isLetter", "(I)Z"⟩ ⟨"WindCarverModel", "isLetter", "(I)Z"⟩) ∈ lw_all := lw_g (lw_at lw_ms 34 rfl) rfl
theorem qs35 : (Cond.selects "WindCarverModel" ⟨"WindCarverModel", "faults", "(I)Z"⟩ ⟨"WindCarverModel", "faults", "(I)Z"⟩) ∈ lw_all := lw_g (lw_at lw_ms 35 rfl) rfl
theorem qs36 : (Cond.selects "WindCarverModel" ⟨"WindCarverModel", "takesNumber", "(IIII)Z"⟩ ⟨"WindCarverModel", "takesNumber", "(IIII)Z"⟩) ∈ lw_all := lw_g (lw_at lw_ms 36 rfl) rfl
theorem qs37 : (Cond.selects "WindCarverModel" ⟨"WindCarverModel", "readWork", "(I)Z"⟩ ⟨"WindCarverModel", "readWork", "(I)Z"⟩) ∈ lw_all := lw_g (lw_at lw_ms 37 rfl) rfl
theorem qs38 : (Cond.selects "WindCarverModel" ⟨"WindCarverModel", "isWork", "(I)Z"⟩ ⟨"WindCarverModel", "isWork", "(I)Z"⟩) ∈ lw_all := lw_g (lw_at lw_ms 38 rfl) rfl
theorem qs39 : (Cond.selects "WindCarverModel" ⟨"WindCarverModel", "workMany", "()I"⟩ ⟨"WindCarverModel", "workMany", "()I"⟩) ∈ lw_all := lw_g (lw_at lw_ms 39 rfl) rfl
theorem qs40 : (Cond.selects "WindCarverModel" ⟨"WindCarverModel", "note", "()V"⟩ ⟨"WindCarverModel", "note", "()V"⟩) ∈ lw_all := lw_g (lw_at lw_ms 40 rfl) rfl
theorem qs41 : (Cond.selects "WindCarverModel" ⟨"WindCarverModel", "clear", "(I)V"⟩ ⟨"WindCarverModel", "clear", "(I)V"⟩) ∈ lw_all := lw_g (lw_at lw_ms 41 rfl) rfl
theorem qs42 : (Cond.selects "WindCarverModel" ⟨"WindCarverModel", "oneHour", "()V"⟩ ⟨"WindCarverModel", "oneHour", "()V"⟩) ∈ lw_all := lw_g (lw_at lw_ms 42 rfl) rfl
theorem qs43 : (Cond.selects "WindCarverModel" ⟨"WindCarverModel", "blow", "()V"⟩ ⟨"WindCarverModel", "blow", "()V"⟩) ∈ lw_all := lw_g (lw_at lw_ms 43 rfl) rfl
theorem qs44 : (Cond.selects "WindCarverModel" ⟨"WindCarverModel", "goes", "(III)V"⟩ ⟨"WindCarverModel", "goes", "(III)V"⟩) ∈ lw_all := lw_g (lw_at lw_ms 44 rfl) rfl
theorem qs45 : (Cond.selects "WindCarverModel" ⟨"WindCarverModel", "feltNow", "(I)I"⟩ ⟨"WindCarverModel", "feltNow", "(I)I"⟩) ∈ lw_all := lw_g (lw_at lw_ms 45 rfl) rfl
theorem qs46 : (Cond.selects "WindCarverModel" ⟨"WindCarverModel", "blowIn", "(I)V"⟩ ⟨"WindCarverModel", "blowIn", "(I)V"⟩) ∈ lw_all := lw_g (lw_at lw_ms 46 rfl) rfl
theorem qs47 : (Cond.selects "WindCarverModel" ⟨"WindCarverModel", "putAside", "()V"⟩ ⟨"WindCarverModel", "putAside", "()V"⟩) ∈ lw_all := lw_g (lw_at lw_ms 47 rfl) rfl
theorem qs48 : (Cond.selects "WindCarverModel" ⟨"WindCarverModel", "takeBack", "()V"⟩ ⟨"WindCarverModel", "takeBack", "()V"⟩) ∈ lw_all := lw_g (lw_at lw_ms 48 rfl) rfl
theorem qs49 : (Cond.selects "WindCarverModel" ⟨"WindCarverModel", "lacks", "(III)I"⟩ ⟨"WindCarverModel", "lacks", "(III)I"⟩) ∈ lw_all := lw_g (lw_at lw_ms 49 rfl) rfl
theorem qs50 : (Cond.selects "WindCarverModel" ⟨"WindCarverModel", "feltWith", "(III)I"⟩ ⟨"WindCarverModel", "feltWith", "(III)I"⟩) ∈ lw_all := lw_g (lw_at lw_ms 50 rfl) rfl
theorem qs51 : (Cond.selects "WindCarverModel" ⟨"WindCarverModel", "sizeOf", "(I)I"⟩ ⟨"WindCarverModel", "sizeOf", "(I)I"⟩) ∈ lw_all := lw_g (lw_at lw_ms 51 rfl) rfl
theorem qs52 : (Cond.selects "WindCarverModel" ⟨"WindCarverModel", "begin", "(I)V"⟩ ⟨"WindCarverModel", "begin", "(I)V"⟩) ∈ lw_all := lw_g (lw_at lw_ms 52 rfl) rfl
theorem qs53 : (Cond.selects "WindCarverModel" ⟨"WindCarverModel", "wallSize", "(I)I"⟩ ⟨"WindCarverModel", "wallSize", "(I)I"⟩) ∈ lw_all := lw_g (lw_at lw_ms 53 rfl) rfl
theorem qs54 : (Cond.selects "WindCarverModel" ⟨"WindCarverModel", "lent", "(II)I"⟩ ⟨"WindCarverModel", "lent", "(II)I"⟩) ∈ lw_all := lw_g (lw_at lw_ms 54 rfl) rfl
theorem qs55 : (Cond.selects "WindCarverModel" ⟨"WindCarverModel", "markOf", "(I)I"⟩ ⟨"WindCarverModel", "markOf", "(I)I"⟩) ∈ lw_all := lw_g (lw_at lw_ms 55 rfl) rfl
theorem qs56 : (Cond.selects "WindCarverModel" ⟨"WindCarverModel", "wallMark", "(I)I"⟩ ⟨"WindCarverModel", "wallMark", "(I)I"⟩) ∈ lw_all := lw_g (lw_at lw_ms 56 rfl) rfl
theorem qs57 : (Cond.selects "WindCarverModel" ⟨"WindCarverModel", "sizeOfHand", "(I)I"⟩ ⟨"WindCarverModel", "sizeOfHand", "(I)I"⟩) ∈ lw_all := lw_g (lw_at lw_ms 57 rfl) rfl
theorem qs58 : (Cond.selects "WindCarverModel" ⟨"WindCarverModel", "handSize", "(I)I"⟩ ⟨"WindCarverModel", "handSize", "(I)I"⟩) ∈ lw_all := lw_g (lw_at lw_ms 58 rfl) rfl
