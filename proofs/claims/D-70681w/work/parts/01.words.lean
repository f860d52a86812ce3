-- ===== PART A: goes FIRST, ahead of the names: the tables' words, and 'selects' of the private methods out of them =====
/-- a private method of a class that the tables say can be made, by its rows of tables_1 -/
def lw_okq (q : MethodName × Nat) : Prop := (q.1.cls ≠ "java/lang/invoke/MethodHandle" ∧ q.1.cls ≠ "java/lang/invoke/VarHandle") ∧ Cond.instantiable q.1.cls q.2 ∈ tables_1 ∧ Cond.privateMethod q.1 ∈ tables_1 ∧ Cond.instanceMethod q.1 ∈ tables_1
set_option maxRecDepth 100000
theorem lw_t1 {w : Cond} (h : w ∈ tables_1_1) : w ∈ tables_1 := List.mem_append_left _ h
theorem lw_t2 {w : Cond} (h : w ∈ tables_1_2) : w ∈ tables_1 := List.mem_append_right _ (List.mem_append_left _ h)
theorem lw_t3 {w : Cond} (h : w ∈ tables_1_3) : w ∈ tables_1 := List.mem_append_right _ (List.mem_append_right _ (List.mem_append_left _ h))
theorem lw_t4 {w : Cond} (h : w ∈ tables_1_4) : w ∈ tables_1 := List.mem_append_right _ (List.mem_append_right _ (List.mem_append_right _ (List.mem_append_left _ h)))
theorem lw_t5 {w : Cond} (h : w ∈ tables_1_5) : w ∈ tables_1 := List.mem_append_right _ (List.mem_append_right _ (List.mem_append_right _ (List.mem_append_right _ (List.mem_append_left _ h))))
theorem lw_t6 {w : Cond} (h : w ∈ tables_1_6) : w ∈ tables_1 := List.mem_append_right _ (List.mem_append_right _ (List.mem_append_right _ (List.mem_append_right _ (List.mem_append_right _ h))))
theorem lw_p0 : lw_okq (⟨"TearsQueue$Reader", "next", "()V"⟩, 9) := ⟨⟨by decide +kernel, by decide +kernel⟩, lw_t1 (List.mem_of_getElem? (i := 197) rfl), lw_t1 (List.mem_of_getElem? (i := 205) rfl), lw_t1 (List.mem_of_getElem? (i := 206) rfl)⟩
theorem lw_p1 : lw_okq (⟨"TearsQueue$Reader", "isIn", "(CC)Z"⟩, 9) := ⟨⟨by decide +kernel, by decide +kernel⟩, lw_t1 (List.mem_of_getElem? (i := 197) rfl), lw_t1 (List.mem_of_getElem? (i := 209) rfl), lw_t1 (List.mem_of_getElem? (i := 210) rfl)⟩
theorem lw_p2 : lw_okq (⟨"TearsQueue$Reader", "need", "(ZI)V"⟩, 9) := ⟨⟨by decide +kernel, by decide +kernel⟩, lw_t1 (List.mem_of_getElem? (i := 197) rfl), lw_t1 (List.mem_of_getElem? (i := 213) rfl), lw_t1 (List.mem_of_getElem? (i := 214) rfl)⟩
theorem lw_p3 : lw_okq (⟨"java/lang/NullPointerException", "getExtendedNPEMessage", "()Ljava/lang/String;"⟩, 8) := ⟨⟨by decide +kernel, by decide +kernel⟩, lw_t2 (List.mem_of_getElem? (i := 16) rfl), lw_t2 (List.mem_of_getElem? (i := 14) rfl), lw_t2 (List.mem_of_getElem? (i := 15) rfl)⟩
theorem lw_p4 : lw_okq (⟨"java/lang/Throwable", "fillInStackTrace", "(I)Ljava/lang/Throwable;"⟩, 6) := ⟨⟨by decide +kernel, by decide +kernel⟩, lw_t2 (List.mem_of_getElem? (i := 28) rfl), lw_t2 (List.mem_of_getElem? (i := 26) rfl), lw_t2 (List.mem_of_getElem? (i := 27) rfl)⟩
theorem lw_p5 : lw_okq (⟨"TearsQueue$Reader", "line", "()V"⟩, 9) := ⟨⟨by decide +kernel, by decide +kernel⟩, lw_t1 (List.mem_of_getElem? (i := 197) rfl), lw_t2 (List.mem_of_getElem? (i := 94) rfl), lw_t2 (List.mem_of_getElem? (i := 95) rfl)⟩
theorem lw_p6 : lw_okq (⟨"TearsQueue$Reader", "is", "(I)Z"⟩, 9) := ⟨⟨by decide +kernel, by decide +kernel⟩, lw_t1 (List.mem_of_getElem? (i := 197) rfl), lw_t2 (List.mem_of_getElem? (i := 98) rfl), lw_t2 (List.mem_of_getElem? (i := 99) rfl)⟩
theorem lw_p7 : lw_okq (⟨"TearsQueue$Reader", "name", "(I)Ljava/lang/String;"⟩, 9) := ⟨⟨by decide +kernel, by decide +kernel⟩, lw_t1 (List.mem_of_getElem? (i := 197) rfl), lw_t2 (List.mem_of_getElem? (i := 102) rfl), lw_t2 (List.mem_of_getElem? (i := 103) rfl)⟩
theorem lw_p8 : lw_okq (⟨"TearsQueue$Reader", "told", "(I)V"⟩, 9) := ⟨⟨by decide +kernel, by decide +kernel⟩, lw_t1 (List.mem_of_getElem? (i := 197) rfl), lw_t2 (List.mem_of_getElem? (i := 164) rfl), lw_t2 (List.mem_of_getElem? (i := 165) rfl)⟩
theorem lw_p9 : lw_okq (⟨"TearsQueue$Reader", "taken", "(II)I"⟩, 9) := ⟨⟨by decide +kernel, by decide +kernel⟩, lw_t1 (List.mem_of_getElem? (i := 197) rfl), lw_t2 (List.mem_of_getElem? (i := 168) rfl), lw_t2 (List.mem_of_getElem? (i := 169) rfl)⟩
theorem lw_p10 : lw_okq (⟨"TearsQueue$Reader", "looked", "(II)I"⟩, 9) := ⟨⟨by decide +kernel, by decide +kernel⟩, lw_t1 (List.mem_of_getElem? (i := 197) rfl), lw_t2 (List.mem_of_getElem? (i := 172) rfl), lw_t2 (List.mem_of_getElem? (i := 173) rfl)⟩
theorem lw_p11 : lw_okq (⟨"TearsQueue$Reader", "plan", "()V"⟩, 9) := ⟨⟨by decide +kernel, by decide +kernel⟩, lw_t1 (List.mem_of_getElem? (i := 197) rfl), lw_t2 (List.mem_of_getElem? (i := 177) rfl), lw_t2 (List.mem_of_getElem? (i := 178) rfl)⟩
theorem lw_p12 : lw_okq (⟨"TearsQueue", "isOne", "(I)Z"⟩, 19) := ⟨⟨by decide +kernel, by decide +kernel⟩, lw_t1 (List.mem_of_getElem? (i := 27) rfl), lw_t2 (List.mem_of_getElem? (i := 223) rfl), lw_t2 (List.mem_of_getElem? (i := 224) rfl)⟩
theorem lw_p13 : lw_okq (⟨"TearsQueue", "brim", "(LTearsQueue$Stop;I)I"⟩, 19) := ⟨⟨by decide +kernel, by decide +kernel⟩, lw_t1 (List.mem_of_getElem? (i := 27) rfl), lw_t2 (List.mem_of_getElem? (i := 228) rfl), lw_t2 (List.mem_of_getElem? (i := 229) rfl)⟩
theorem lw_p14 : lw_okq (⟨"TearsQueue", "isAct", "(I)Z"⟩, 19) := ⟨⟨by decide +kernel, by decide +kernel⟩, lw_t1 (List.mem_of_getElem? (i := 27) rfl), lw_t3 (List.mem_of_getElem? (i := 61) rfl), lw_t3 (List.mem_of_getElem? (i := 62) rfl)⟩
theorem lw_p15 : lw_okq (⟨"TearsQueue", "thinking", "(LTearsQueue$Stop;I)I"⟩, 19) := ⟨⟨by decide +kernel, by decide +kernel⟩, lw_t1 (List.mem_of_getElem? (i := 27) rfl), lw_t3 (List.mem_of_getElem? (i := 74) rfl), lw_t3 (List.mem_of_getElem? (i := 75) rfl)⟩
def lw_privs_1 : List (MethodName × Nat) := [(⟨"TearsQueue$Reader", "next", "()V"⟩, 9), (⟨"TearsQueue$Reader", "isIn", "(CC)Z"⟩, 9), (⟨"TearsQueue$Reader", "need", "(ZI)V"⟩, 9), (⟨"java/lang/NullPointerException", "getExtendedNPEMessage", "()Ljava/lang/String;"⟩, 8), (⟨"java/lang/Throwable", "fillInStackTrace", "(I)Ljava/lang/Throwable;"⟩, 6), (⟨"TearsQueue$Reader", "line", "()V"⟩, 9), (⟨"TearsQueue$Reader", "is", "(I)Z"⟩, 9), (⟨"TearsQueue$Reader", "name", "(I)Ljava/lang/String;"⟩, 9), (⟨"TearsQueue$Reader", "told", "(I)V"⟩, 9), (⟨"TearsQueue$Reader", "taken", "(II)I"⟩, 9), (⟨"TearsQueue$Reader", "looked", "(II)I"⟩, 9), (⟨"TearsQueue$Reader", "plan", "()V"⟩, 9), (⟨"TearsQueue", "isOne", "(I)Z"⟩, 19), (⟨"TearsQueue", "brim", "(LTearsQueue$Stop;I)I"⟩, 19), (⟨"TearsQueue", "isAct", "(I)Z"⟩, 19), (⟨"TearsQueue", "thinking", "(LTearsQueue$Stop;I)I"⟩, 19)]
theorem lw_r1 : ∀ q ∈ lw_privs_1, lw_okq q := List.forall_mem_cons.mpr ⟨lw_p0, List.forall_mem_cons.mpr ⟨lw_p1, List.forall_mem_cons.mpr ⟨lw_p2, List.forall_mem_cons.mpr ⟨lw_p3, List.forall_mem_cons.mpr ⟨lw_p4, List.forall_mem_cons.mpr ⟨lw_p5, List.forall_mem_cons.mpr ⟨lw_p6, List.forall_mem_cons.mpr ⟨lw_p7, List.forall_mem_cons.mpr ⟨lw_p8, List.forall_mem_cons.mpr ⟨lw_p9, List.forall_mem_cons.mpr ⟨lw_p10, List.forall_mem_cons.mpr ⟨lw_p11, List.forall_mem_cons.mpr ⟨lw_p12, List.forall_mem_cons.mpr ⟨lw_p13, List.forall_mem_cons.mpr ⟨lw_p14, List.forall_mem_cons.mpr ⟨lw_p15, fun _ h => absurd h List.not_mem_nil⟩⟩⟩⟩⟩⟩⟩⟩⟩⟩⟩⟩⟩⟩⟩⟩
theorem lw_p16 : lw_okq (⟨"TearsQueue", "nextWeeper", "(LTearsQueue$Stop;I)I"⟩, 19) := ⟨⟨by decide +kernel, by decide +kernel⟩, lw_t1 (List.mem_of_getElem? (i := 27) rfl), lw_t3 (List.mem_of_getElem? (i := 86) rfl), lw_t3 (List.mem_of_getElem? (i := 87) rfl)⟩
theorem lw_p17 : lw_okq (⟨"TearsQueue", "goes", "(LTearsQueue$Stop;I)V"⟩, 19) := ⟨⟨by decide +kernel, by decide +kernel⟩, lw_t1 (List.mem_of_getElem? (i := 27) rfl), lw_t3 (List.mem_of_getElem? (i := 137) rfl), lw_t3 (List.mem_of_getElem? (i := 138) rfl)⟩
theorem lw_p18 : lw_okq (⟨"TearsQueue", "begins", "()V"⟩, 19) := ⟨⟨by decide +kernel, by decide +kernel⟩, lw_t1 (List.mem_of_getElem? (i := 27) rfl), lw_t3 (List.mem_of_getElem? (i := 141) rfl), lw_t3 (List.mem_of_getElem? (i := 142) rfl)⟩
theorem lw_p19 : lw_okq (⟨"TearsQueue", "acts", "(LTearsQueue$Stop;I)Z"⟩, 19) := ⟨⟨by decide +kernel, by decide +kernel⟩, lw_t1 (List.mem_of_getElem? (i := 27) rfl), lw_t3 (List.mem_of_getElem? (i := 145) rfl), lw_t3 (List.mem_of_getElem? (i := 146) rfl)⟩
theorem lw_p20 : lw_okq (⟨"TearsQueue", "readRow", "(III)V"⟩, 19) := ⟨⟨by decide +kernel, by decide +kernel⟩, lw_t1 (List.mem_of_getElem? (i := 27) rfl), lw_t3 (List.mem_of_getElem? (i := 168) rfl), lw_t3 (List.mem_of_getElem? (i := 169) rfl)⟩
theorem lw_p21 : lw_okq (⟨"TearsQueue", "rowAct", "(I)I"⟩, 19) := ⟨⟨by decide +kernel, by decide +kernel⟩, lw_t1 (List.mem_of_getElem? (i := 27) rfl), lw_t3 (List.mem_of_getElem? (i := 172) rfl), lw_t3 (List.mem_of_getElem? (i := 173) rfl)⟩
theorem lw_p22 : lw_okq (⟨"TearsQueue", "isHome", "(II)Z"⟩, 19) := ⟨⟨by decide +kernel, by decide +kernel⟩, lw_t1 (List.mem_of_getElem? (i := 27) rfl), lw_t3 (List.mem_of_getElem? (i := 180) rfl), lw_t3 (List.mem_of_getElem? (i := 181) rfl)⟩
theorem lw_p23 : lw_okq (⟨"TearsQueue", "findOdds", "(II)V"⟩, 19) := ⟨⟨by decide +kernel, by decide +kernel⟩, lw_t1 (List.mem_of_getElem? (i := 27) rfl), lw_t3 (List.mem_of_getElem? (i := 199) rfl), lw_t3 (List.mem_of_getElem? (i := 200) rfl)⟩
theorem lw_p24 : lw_okq (⟨"TearsQueue", "which", "(III)I"⟩, 19) := ⟨⟨by decide +kernel, by decide +kernel⟩, lw_t1 (List.mem_of_getElem? (i := 27) rfl), lw_t3 (List.mem_of_getElem? (i := 222) rfl), lw_t3 (List.mem_of_getElem? (i := 223) rfl)⟩
theorem lw_p25 : lw_okq (⟨"TearsQueue", "isSo", "(III)Z"⟩, 19) := ⟨⟨by decide +kernel, by decide +kernel⟩, lw_t1 (List.mem_of_getElem? (i := 27) rfl), lw_t3 (List.mem_of_getElem? (i := 226) rfl), lw_t3 (List.mem_of_getElem? (i := 227) rfl)⟩
theorem lw_p26 : lw_okq (⟨"TearsQueue", "takenOf", "(III)I"⟩, 19) := ⟨⟨by decide +kernel, by decide +kernel⟩, lw_t1 (List.mem_of_getElem? (i := 27) rfl), lw_t4 (List.mem_of_getElem? (i := 121) rfl), lw_t4 (List.mem_of_getElem? (i := 122) rfl)⟩
theorem lw_p27 : lw_okq (⟨"TearsQueueModel", "step", "()V"⟩, 29) := ⟨⟨by decide +kernel, by decide +kernel⟩, lw_t4 (List.mem_of_getElem? (i := 133) rfl), lw_t5 (List.mem_of_getElem? (i := 4) rfl), lw_t5 (List.mem_of_getElem? (i := 5) rfl)⟩
theorem lw_p28 : lw_okq (⟨"TearsQueueModel", "byteAt", "(I)I"⟩, 29) := ⟨⟨by decide +kernel, by decide +kernel⟩, lw_t4 (List.mem_of_getElem? (i := 133) rfl), lw_t5 (List.mem_of_getElem? (i := 8) rfl), lw_t5 (List.mem_of_getElem? (i := 9) rfl)⟩
theorem lw_p29 : lw_okq (⟨"TearsQueueModel", "fails", "(I)V"⟩, 29) := ⟨⟨by decide +kernel, by decide +kernel⟩, lw_t4 (List.mem_of_getElem? (i := 133) rfl), lw_t5 (List.mem_of_getElem? (i := 16) rfl), lw_t5 (List.mem_of_getElem? (i := 17) rfl)⟩
theorem lw_p30 : lw_okq (⟨"TearsQueueModel", "readLine", "()V"⟩, 29) := ⟨⟨by decide +kernel, by decide +kernel⟩, lw_t4 (List.mem_of_getElem? (i := 133) rfl), lw_t5 (List.mem_of_getElem? (i := 20) rfl), lw_t5 (List.mem_of_getElem? (i := 21) rfl)⟩
theorem lw_p31 : lw_okq (⟨"TearsQueueModel", "nameHere", "()I"⟩, 29) := ⟨⟨by decide +kernel, by decide +kernel⟩, lw_t4 (List.mem_of_getElem? (i := 133) rfl), lw_t5 (List.mem_of_getElem? (i := 24) rfl), lw_t5 (List.mem_of_getElem? (i := 25) rfl)⟩
def lw_privs_2 : List (MethodName × Nat) := [(⟨"TearsQueue", "nextWeeper", "(LTearsQueue$Stop;I)I"⟩, 19), (⟨"TearsQueue", "goes", "(LTearsQueue$Stop;I)V"⟩, 19), (⟨"TearsQueue", "begins", "()V"⟩, 19), (⟨"TearsQueue", "acts", "(LTearsQueue$Stop;I)Z"⟩, 19), (⟨"TearsQueue", "readRow", "(III)V"⟩, 19), (⟨"TearsQueue", "rowAct", "(I)I"⟩, 19), (⟨"TearsQueue", "isHome", "(II)Z"⟩, 19), (⟨"TearsQueue", "findOdds", "(II)V"⟩, 19), (⟨"TearsQueue", "which", "(III)I"⟩, 19), (⟨"TearsQueue", "isSo", "(III)Z"⟩, 19), (⟨"TearsQueue", "takenOf", "(III)I"⟩, 19), (⟨"TearsQueueModel", "step", "()V"⟩, 29), (⟨"TearsQueueModel", "byteAt", "(I)I"⟩, 29), (⟨"TearsQueueModel", "fails", "(I)V"⟩, 29), (⟨"TearsQueueModel", "readLine", "()V"⟩, 29), (⟨"TearsQueueModel", "nameHere", "()I"⟩, 29)]
theorem lw_r2 : ∀ q ∈ lw_privs_2, lw_okq q := List.forall_mem_cons.mpr ⟨lw_p16, List.forall_mem_cons.mpr ⟨lw_p17, List.forall_mem_cons.mpr ⟨lw_p18, List.forall_mem_cons.mpr ⟨lw_p19, List.forall_mem_cons.mpr ⟨lw_p20, List.forall_mem_cons.mpr ⟨lw_p21, List.forall_mem_cons.mpr ⟨lw_p22, List.forall_mem_cons.mpr ⟨lw_p23, List.forall_mem_cons.mpr ⟨lw_p24, List.forall_mem_cons.mpr ⟨lw_p25, List.forall_mem_cons.mpr ⟨lw_p26, List.forall_mem_cons.mpr ⟨lw_p27, List.forall_mem_cons.mpr ⟨lw_p28, List.forall_mem_cons.mpr ⟨lw_p29, List.forall_mem_cons.mpr ⟨lw_p30, List.forall_mem_cons.mpr ⟨lw_p31, fun _ h => absurd h List.not_mem_nil⟩⟩⟩⟩⟩⟩⟩⟩⟩⟩⟩⟩⟩⟩⟩⟩
theorem lw_p32 : lw_okq (⟨"TearsQueueModel", "readMore", "(I)V"⟩, 29) := ⟨⟨by decide +kernel, by decide +kernel⟩, lw_t4 (List.mem_of_getElem? (i := 133) rfl), lw_t5 (List.mem_of_getElem? (i := 29) rfl), lw_t5 (List.mem_of_getElem? (i := 30) rfl)⟩
theorem lw_p33 : lw_okq (⟨"TearsQueueModel", "number", "(II)I"⟩, 29) := ⟨⟨by decide +kernel, by decide +kernel⟩, lw_t4 (List.mem_of_getElem? (i := 133) rfl), lw_t5 (List.mem_of_getElem? (i := 33) rfl), lw_t5 (List.mem_of_getElem? (i := 34) rfl)⟩
theorem lw_p34 : lw_okq (⟨"TearsQueueModel", "readPlan", "()V"⟩, 29) := ⟨⟨by decide +kernel, by decide +kernel⟩, lw_t4 (List.mem_of_getElem? (i := 133) rfl), lw_t5 (List.mem_of_getElem? (i := 37) rfl), lw_t5 (List.mem_of_getElem? (i := 38) rfl)⟩
theorem lw_p35 : lw_okq (⟨"TearsQueueModel", "waitingOn", "(I)I"⟩, 29) := ⟨⟨by decide +kernel, by decide +kernel⟩, lw_t4 (List.mem_of_getElem? (i := 133) rfl), lw_t5 (List.mem_of_getElem? (i := 49) rfl), lw_t5 (List.mem_of_getElem? (i := 50) rfl)⟩
theorem lw_p36 : lw_okq (⟨"TearsQueueModel", "sorrowOn", "(I)I"⟩, 29) := ⟨⟨by decide +kernel, by decide +kernel⟩, lw_t4 (List.mem_of_getElem? (i := 133) rfl), lw_t5 (List.mem_of_getElem? (i := 53) rfl), lw_t5 (List.mem_of_getElem? (i := 54) rfl)⟩
theorem lw_p37 : lw_okq (⟨"TearsQueueModel", "waits", "(II)Z"⟩, 29) := ⟨⟨by decide +kernel, by decide +kernel⟩, lw_t4 (List.mem_of_getElem? (i := 133) rfl), lw_t5 (List.mem_of_getElem? (i := 57) rfl), lw_t5 (List.mem_of_getElem? (i := 58) rfl)⟩
theorem lw_p38 : lw_okq (⟨"TearsQueueModel", "isOne", "(I)Z"⟩, 29) := ⟨⟨by decide +kernel, by decide +kernel⟩, lw_t4 (List.mem_of_getElem? (i := 133) rfl), lw_t5 (List.mem_of_getElem? (i := 65) rfl), lw_t5 (List.mem_of_getElem? (i := 66) rfl)⟩
theorem lw_p39 : lw_okq (⟨"TearsQueueModel", "nextOn", "(II)I"⟩, 29) := ⟨⟨by decide +kernel, by decide +kernel⟩, lw_t4 (List.mem_of_getElem? (i := 133) rfl), lw_t5 (List.mem_of_getElem? (i := 81) rfl), lw_t5 (List.mem_of_getElem? (i := 82) rfl)⟩
theorem lw_p40 : lw_okq (⟨"TearsQueueModel", "placeOn", "(II)I"⟩, 29) := ⟨⟨by decide +kernel, by decide +kernel⟩, lw_t4 (List.mem_of_getElem? (i := 133) rfl), lw_t5 (List.mem_of_getElem? (i := 85) rfl), lw_t5 (List.mem_of_getElem? (i := 86) rfl)⟩
theorem lw_p41 : lw_okq (⟨"TearsQueueModel", "puts", "(ZIII)I"⟩, 29) := ⟨⟨by decide +kernel, by decide +kernel⟩, lw_t4 (List.mem_of_getElem? (i := 133) rfl), lw_t5 (List.mem_of_getElem? (i := 95) rfl), lw_t5 (List.mem_of_getElem? (i := 96) rfl)⟩
theorem lw_p42 : lw_okq (⟨"TearsQueueModel", "isAct", "(I)Z"⟩, 29) := ⟨⟨by decide +kernel, by decide +kernel⟩, lw_t4 (List.mem_of_getElem? (i := 133) rfl), lw_t5 (List.mem_of_getElem? (i := 113) rfl), lw_t5 (List.mem_of_getElem? (i := 114) rfl)⟩
theorem lw_p43 : lw_okq (⟨"TearsQueueModel", "thinksOn", "(II)I"⟩, 29) := ⟨⟨by decide +kernel, by decide +kernel⟩, lw_t4 (List.mem_of_getElem? (i := 133) rfl), lw_t5 (List.mem_of_getElem? (i := 125) rfl), lw_t5 (List.mem_of_getElem? (i := 126) rfl)⟩
theorem lw_p44 : lw_okq (⟨"TearsQueueModel", "grieves", "(III)V"⟩, 29) := ⟨⟨by decide +kernel, by decide +kernel⟩, lw_t4 (List.mem_of_getElem? (i := 133) rfl), lw_t5 (List.mem_of_getElem? (i := 129) rfl), lw_t5 (List.mem_of_getElem? (i := 130) rfl)⟩
theorem lw_p45 : lw_okq (⟨"TearsQueueModel", "nextToWeep", "(II)I"⟩, 29) := ⟨⟨by decide +kernel, by decide +kernel⟩, lw_t4 (List.mem_of_getElem? (i := 133) rfl), lw_t5 (List.mem_of_getElem? (i := 133) rfl), lw_t5 (List.mem_of_getElem? (i := 134) rfl)⟩
theorem lw_p46 : lw_okq (⟨"TearsQueueModel", "setsOff", "(II)V"⟩, 29) := ⟨⟨by decide +kernel, by decide +kernel⟩, lw_t4 (List.mem_of_getElem? (i := 133) rfl), lw_t5 (List.mem_of_getElem? (i := 137) rfl), lw_t5 (List.mem_of_getElem? (i := 138) rfl)⟩
theorem lw_p47 : lw_okq (⟨"TearsQueueModel", "minuteOn", "(I)V"⟩, 29) := ⟨⟨by decide +kernel, by decide +kernel⟩, lw_t4 (List.mem_of_getElem? (i := 133) rfl), lw_t5 (List.mem_of_getElem? (i := 146) rfl), lw_t5 (List.mem_of_getElem? (i := 147) rfl)⟩
def lw_privs_3 : List (MethodName × Nat) := [(⟨"TearsQueueModel", "readMore", "(I)V"⟩, 29), (⟨"TearsQueueModel", "number", "(II)I"⟩, 29), (⟨"TearsQueueModel", "readPlan", "()V"⟩, 29), (⟨"TearsQueueModel", "waitingOn", "(I)I"⟩, 29), (⟨"TearsQueueModel", "sorrowOn", "(I)I"⟩, 29), (⟨"TearsQueueModel", "waits", "(II)Z"⟩, 29), (⟨"TearsQueueModel", "isOne", "(I)Z"⟩, 29), (⟨"TearsQueueModel", "nextOn", "(II)I"⟩, 29), (⟨"TearsQueueModel", "placeOn", "(II)I"⟩, 29), (⟨"TearsQueueModel", "puts", "(ZIII)I"⟩, 29), (⟨"TearsQueueModel", "isAct", "(I)Z"⟩, 29), (⟨"TearsQueueModel", "thinksOn", "(II)I"⟩, 29), (⟨"TearsQueueModel", "grieves", "(III)V"⟩, 29), (⟨"TearsQueueModel", "nextToWeep", "(II)I"⟩, 29), (⟨"TearsQueueModel", "setsOff", "(II)V"⟩, 29), (⟨"TearsQueueModel", "minuteOn", "(I)V"⟩, 29)]
theorem lw_r3 : ∀ q ∈ lw_privs_3, lw_okq q := List.forall_mem_cons.mpr ⟨lw_p32, List.forall_mem_cons.mpr ⟨lw_p33, List.forall_mem_cons.mpr ⟨lw_p34, List.forall_mem_cons.mpr ⟨lw_p35, List.forall_mem_cons.mpr ⟨lw_p36, List.forall_mem_cons.mpr ⟨lw_p37, List.forall_mem_cons.mpr ⟨lw_p38, List.forall_mem_cons.mpr ⟨lw_p39, List.forall_mem_cons.mpr ⟨lw_p40, List.forall_mem_cons.mpr ⟨lw_p41, List.forall_mem_cons.mpr ⟨lw_p42, List.forall_mem_cons.mpr ⟨lw_p43, List.forall_mem_cons.mpr ⟨lw_p44, List.forall_mem_cons.mpr ⟨lw_p45, List.forall_mem_cons.mpr ⟨lw_p46, List.forall_mem_cons.mpr ⟨lw_p47, fun _ h => absurd h List.not_mem_nil⟩⟩⟩⟩⟩⟩⟩⟩⟩⟩⟩⟩⟩⟩⟩⟩
theorem lw_p48 : lw_okq (⟨"TearsQueueModel", "tramOn", "(I)I"⟩, 29) := ⟨⟨by decide +kernel, by decide +kernel⟩, lw_t4 (List.mem_of_getElem? (i := 133) rfl), lw_t5 (List.mem_of_getElem? (i := 154) rfl), lw_t5 (List.mem_of_getElem? (i := 155) rfl)⟩
theorem lw_p49 : lw_okq (⟨"TearsQueueModel", "planGoes", "(II)V"⟩, 29) := ⟨⟨by decide +kernel, by decide +kernel⟩, lw_t4 (List.mem_of_getElem? (i := 133) rfl), lw_t5 (List.mem_of_getElem? (i := 173) rfl), lw_t5 (List.mem_of_getElem? (i := 174) rfl)⟩
theorem lw_p50 : lw_okq (⟨"TearsQueueModel", "begins", "(I)V"⟩, 29) := ⟨⟨by decide +kernel, by decide +kernel⟩, lw_t4 (List.mem_of_getElem? (i := 133) rfl), lw_t5 (List.mem_of_getElem? (i := 177) rfl), lw_t5 (List.mem_of_getElem? (i := 178) rfl)⟩
theorem lw_p51 : lw_okq (⟨"TearsQueueModel", "copies", "(II)V"⟩, 29) := ⟨⟨by decide +kernel, by decide +kernel⟩, lw_t4 (List.mem_of_getElem? (i := 133) rfl), lw_t5 (List.mem_of_getElem? (i := 181) rfl), lw_t5 (List.mem_of_getElem? (i := 182) rfl)⟩
theorem lw_p52 : lw_okq (⟨"TearsQueueModel", "acts", "(I)Z"⟩, 29) := ⟨⟨by decide +kernel, by decide +kernel⟩, lw_t4 (List.mem_of_getElem? (i := 133) rfl), lw_t5 (List.mem_of_getElem? (i := 185) rfl), lw_t5 (List.mem_of_getElem? (i := 186) rfl)⟩
theorem lw_p53 : lw_okq (⟨"TearsQueueModel", "rowGoes", "(III)Z"⟩, 29) := ⟨⟨by decide +kernel, by decide +kernel⟩, lw_t4 (List.mem_of_getElem? (i := 133) rfl), lw_t5 (List.mem_of_getElem? (i := 206) rfl), lw_t5 (List.mem_of_getElem? (i := 207) rfl)⟩
theorem lw_p54 : lw_okq (⟨"TearsQueueModel", "goneThen", "()I"⟩, 29) := ⟨⟨by decide +kernel, by decide +kernel⟩, lw_t4 (List.mem_of_getElem? (i := 133) rfl), lw_t5 (List.mem_of_getElem? (i := 222) rfl), lw_t5 (List.mem_of_getElem? (i := 223) rfl)⟩
theorem lw_p55 : lw_okq (⟨"TearsQueueModel", "byFails", "(III)J"⟩, 29) := ⟨⟨by decide +kernel, by decide +kernel⟩, lw_t4 (List.mem_of_getElem? (i := 133) rfl), lw_t5 (List.mem_of_getElem? (i := 234) rfl), lw_t5 (List.mem_of_getElem? (i := 235) rfl)⟩
theorem lw_p56 : lw_okq (⟨"TearsQueueModel", "isAsSeen", "()Z"⟩, 29) := ⟨⟨by decide +kernel, by decide +kernel⟩, lw_t4 (List.mem_of_getElem? (i := 133) rfl), lw_t6 (List.mem_of_getElem? (i := 18) rfl), lw_t6 (List.mem_of_getElem? (i := 19) rfl)⟩
theorem lw_p57 : lw_okq (⟨"TearsQueueModel", "sorrowsOf", "(I)I"⟩, 29) := ⟨⟨by decide +kernel, by decide +kernel⟩, lw_t4 (List.mem_of_getElem? (i := 133) rfl), lw_t6 (List.mem_of_getElem? (i := 26) rfl), lw_t6 (List.mem_of_getElem? (i := 27) rfl)⟩
theorem lw_p58 : lw_okq (⟨"TearsQueueModel", "does", "(I)Z"⟩, 29) := ⟨⟨by decide +kernel, by decide +kernel⟩, lw_t4 (List.mem_of_getElem? (i := 133) rfl), lw_t6 (List.mem_of_getElem? (i := 61) rfl), lw_t6 (List.mem_of_getElem? (i := 62) rfl)⟩
def lw_privs_4 : List (MethodName × Nat) := [(⟨"TearsQueueModel", "tramOn", "(I)I"⟩, 29), (⟨"TearsQueueModel", "planGoes", "(II)V"⟩, 29), (⟨"TearsQueueModel", "begins", "(I)V"⟩, 29), (⟨"TearsQueueModel", "copies", "(II)V"⟩, 29), (⟨"TearsQueueModel", "acts", "(I)Z"⟩, 29), (⟨"TearsQueueModel", "rowGoes", "(III)Z"⟩, 29), (⟨"TearsQueueModel", "goneThen", "()I"⟩, 29), (⟨"TearsQueueModel", "byFails", "(III)J"⟩, 29), (⟨"TearsQueueModel", "isAsSeen", "()Z"⟩, 29), (⟨"TearsQueueModel", "sorrowsOf", "(I)I"⟩, 29), (⟨"TearsQueueModel", "does", "(I)Z"⟩, 29)]
theorem lw_r4 : ∀ q ∈ lw_privs_4, lw_okq q := List.forall_mem_cons.mpr ⟨lw_p48, List.forall_mem_cons.mpr ⟨lw_p49, List.forall_mem_cons.mpr ⟨lw_p50, List.forall_mem_cons.mpr ⟨lw_p51, List.forall_mem_cons.mpr ⟨lw_p52, List.forall_mem_cons.mpr ⟨lw_p53, List.forall_mem_cons.mpr ⟨lw_p54, List.forall_mem_cons.mpr ⟨lw_p55, List.forall_mem_cons.mpr ⟨lw_p56, List.forall_mem_cons.mpr ⟨lw_p57, List.forall_mem_cons.mpr ⟨lw_p58, fun _ h => absurd h List.not_mem_nil⟩⟩⟩⟩⟩⟩⟩⟩⟩⟩⟩
def lw_privs : List (MethodName × Nat) := lw_privs_1 ++ (lw_privs_2 ++ (lw_privs_3 ++ (lw_privs_4)))
def lw_tbl : List Cond := k2_sels lw_privs ++ tables_1
theorem lw_privs_ok : ∀ q ∈ lw_privs, lw_okq q := by
  show ∀ q ∈ lw_privs_1 ++ (lw_privs_2 ++ (lw_privs_3 ++ (lw_privs_4))), lw_okq q
  exact List.forall_mem_append.mpr ⟨lw_r1, List.forall_mem_append.mpr ⟨lw_r2, List.forall_mem_append.mpr ⟨lw_r3, lw_r4⟩⟩⟩
-- ===== ONE list of words for every method: the tables' words that hold all through a run =====
def lw_all : List Cond := lw_tbl.filter goodWord
/-- a word of the tables by its place: claim/WORDS.tsv -/
theorem lw_w {w : Cond} (i : Nat) (h : lw_tbl[i]? = some w) (g : goodWord w = true) : w ∈ lw_all := List.mem_filter.mpr ⟨List.mem_of_getElem? h, g⟩
theorem lw_all_tbl {w : Cond} (h : w ∈ lw_all) : w ∈ lw_tbl := (List.mem_filter.mp h).1
theorem lw_self : GoodIn lw_all lw_all := fun w h => ⟨h, good_of_word (List.mem_filter.mp h).2⟩
/-- a class's field words, by their places -/
theorem lw_in (ws : List Cond) (ps : List Nat) (hp : ws = ps.filterMap (fun i => lw_tbl[i]?)) (hg : ws.all goodWord = true) : ∀ w ∈ ws, w ∈ lw_all := by
  intro w h
  have h1 := List.all_eq_true.mp hg w h
  rw [hp] at h
  obtain ⟨i, -, hi⟩ := List.mem_filterMap.mp h
  exact lw_w i hi h1
/-- the words of a contract for the method y with code b, L locals, answer r -/
abbrev ws_ (y : MethodName) (b : ByteArray) (L : Nat) (r : Option FieldType) : List Cond := Cond.code y b L r :: lw_all
theorem lw_meth {y : MethodName} {b : ByteArray} {L : Nat} {r : Option FieldType} (h : Cond.code y b L r ∈ lw_all) : GoodIn lw_all (ws_ y b L r) := by
  intro w hw
  rcases List.mem_cons.mp hw with e | e
  · rw [e]
    exact lw_self _ h
  · exact lw_self _ e
theorem lw_app {a c : List Cond} (ha : ∀ w ∈ a, w ∈ lw_all) (hc : GoodIn lw_all c) : GoodIn lw_all (a ++ c) := by
  intro w hw
  rcases List.mem_append.mp hw with e | e
  · exact lw_self w (ha w e)
  · exact hc w e
/-- what a call through an object asks: cwV n hts (lw_V ..) -/
theorem lw_V {own : String} {idx : Nat} {C : String} {y : MethodName} {b : ByteArray} {L : Nat} {r : Option FieldType} (h1 : Cond.methodLink own idx y ∈ lw_all) (h2 : Cond.instanceMethod y ∈ lw_all) (h3 : Cond.selects C y y ∈ lw_all) (h4 : Cond.initialized C ∈ lw_all) (h5 : Cond.code y b L r ∈ lw_all) : GoodIn lw_all (wsV own idx C y (ws_ y b L r)) := by
  refine lw_app ?_ (lw_meth h5)
  intro w hw
  simp only [List.mem_cons, List.not_mem_nil, or_false] at hw
  rcases hw with e | e | e | e
  · rw [e]; exact h1
  · rw [e]; exact h2
  · rw [e]; exact h3
  · rw [e]; exact h4
/-- what a static call asks: va_cwS n hts (lw_S ..) -/
theorem lw_S {own : String} {idx : Nat} {y : MethodName} {b : ByteArray} {L : Nat} {r : Option FieldType} (h1 : Cond.methodLink own idx y ∈ lw_all) (h2 : Cond.static y ∈ lw_all) (h3 : Cond.initialized y.cls ∈ lw_all) (h4 : Cond.code y b L r ∈ lw_all) : GoodIn lw_all (va_wsS own idx y (ws_ y b L r)) := by
  refine lw_app ?_ (lw_meth h4)
  intro w hw
  simp only [List.mem_cons, List.not_mem_nil, or_false] at hw
  rcases hw with e | e | e
  · rw [e]; exact h1
  · rw [e]; exact h2
  · rw [e]; exact h3
/-- the words of a contract for a method WITH HANDLERS (hh: its table) -/
abbrev wsW_ (y : MethodName) (b : ByteArray) (L : Nat) (r : Option FieldType) (hh : List (Nat × Nat × Nat × Nat)) : List Cond := Cond.codeWith y b L r hh :: lw_all
theorem lw_methW {y : MethodName} {b : ByteArray} {L : Nat} {r : Option FieldType} {hh : List (Nat × Nat × Nat × Nat)} (h : Cond.codeWith y b L r hh ∈ lw_all) : GoodIn lw_all (wsW_ y b L r hh) := by
  intro w hw
  rcases List.mem_cons.mp hw with e | e
  · rw [e]
    exact lw_self _ h
  · exact lw_self _ e
/-- any list of words by their places (lw_in), good -/
theorem lw_good {ws : List Cond} (h : ∀ w ∈ ws, w ∈ lw_all) : GoodIn lw_all ws := fun w hw => lw_self w (h w hw)
/-- what a call of a method with handlers asks: vx_cwVW n hts (lw_VW ..), vx_cwSW n hts (lw_SW ..) -/
theorem lw_VW {own : String} {idx : Nat} {C : String} {y : MethodName} {b : ByteArray} {L : Nat} {r : Option FieldType} {hh : List (Nat × Nat × Nat × Nat)} (h1 : Cond.methodLink own idx y ∈ lw_all) (h2 : Cond.instanceMethod y ∈ lw_all) (h3 : Cond.selects C y y ∈ lw_all) (h4 : Cond.initialized C ∈ lw_all) (h5 : Cond.codeWith y b L r hh ∈ lw_all) : GoodIn lw_all (wsV own idx C y (wsW_ y b L r hh)) := by
  refine lw_app ?_ (lw_methW h5)
  intro w hw
  simp only [List.mem_cons, List.not_mem_nil, or_false] at hw
  rcases hw with e | e | e | e
  · rw [e]; exact h1
  · rw [e]; exact h2
  · rw [e]; exact h3
  · rw [e]; exact h4
theorem lw_SW {own : String} {idx : Nat} {y : MethodName} {b : ByteArray} {L : Nat} {r : Option FieldType} {hh : List (Nat × Nat × Nat × Nat)} (h1 : Cond.methodLink own idx y ∈ lw_all) (h2 : Cond.static y ∈ lw_all) (h3 : Cond.initialized y.cls ∈ lw_all) (h4 : Cond.codeWith y b L r hh ∈ lw_all) : GoodIn lw_all (va_wsS own idx y (wsW_ y b L r hh)) := by
  refine lw_app ?_ (lw_methW h4)
  intro w hw
  simp only [List.mem_cons, List.not_mem_nil, or_false] at hw
  rcases hw with e | e | e
  · rw [e]; exact h1
  · rw [e]; exact h2
  · rw [e]; exact h3
/-- a word by its place in its run of the tables -/
theorem lw_at {r : List Cond} (hr : ∀ w ∈ r, w ∈ lw_tbl) {w : Cond} (i : Nat) (h : r[i]? = some w) : w ∈ lw_tbl := hr w (List.mem_of_getElem? h)
theorem lw_g {w : Cond} (h : w ∈ lw_tbl) (g : goodWord w = true) : w ∈ lw_all := List.mem_filter.mpr ⟨h, g⟩
theorem lw_ms : ∀ w ∈ k2_sels lw_privs, w ∈ lw_tbl := fun w h => show w ∈ k2_sels lw_privs ++ tables_1 from List.mem_append_left _ h
theorem lw_m1 : ∀ w ∈ tables_1_1, w ∈ lw_tbl := fun w h => show w ∈ k2_sels lw_privs ++ tables_1 from List.mem_append_right (k2_sels lw_privs) (show w ∈ tables_1 from List.mem_append_left _ h)
theorem lw_m2 : ∀ w ∈ tables_1_2, w ∈ lw_tbl := fun w h => show w ∈ k2_sels lw_privs ++ tables_1 from List.mem_append_right (k2_sels lw_privs) (show w ∈ tables_1 from List.mem_append_right _ (List.mem_append_left _ h))
theorem lw_m3 : ∀ w ∈ tables_1_3, w ∈ lw_tbl := fun w h => show w ∈ k2_sels lw_privs ++ tables_1 from List.mem_append_right (k2_sels lw_privs) (show w ∈ tables_1 from List.mem_append_right _ (List.mem_append_right _ (List.mem_append_left _ h)))
theorem lw_m4 : ∀ w ∈ tables_1_4, w ∈ lw_tbl := fun w h => show w ∈ k2_sels lw_privs ++ tables_1 from List.mem_append_right (k2_sels lw_privs) (show w ∈ tables_1 from List.mem_append_right _ (List.mem_append_right _ (List.mem_append_right _ (List.mem_append_left _ h))))
theorem lw_m5 : ∀ w ∈ tables_1_5, w ∈ lw_tbl := fun w h => show w ∈ k2_sels lw_privs ++ tables_1 from List.mem_append_right (k2_sels lw_privs) (show w ∈ tables_1 from List.mem_append_right _ (List.mem_append_right _ (List.mem_append_right _ (List.mem_append_right _ (List.mem_append_left _ h)))))
theorem lw_m6 : ∀ w ∈ tables_1_6, w ∈ lw_tbl := fun w h => show w ∈ k2_sels lw_privs ++ tables_1 from List.mem_append_right (k2_sels lw_privs) (show w ∈ tables_1 from List.mem_append_right _ (List.mem_append_right _ (List.mem_append_right _ (List.mem_append_right _ (List.mem_append_right _ h)))))
theorem qs0 : (Cond.selects "TearsQueue$Reader" ⟨"TearsQueue$Reader", "next", "()V"⟩ ⟨"TearsQueue$Reader", "next", "()V"⟩) ∈ lw_all := lw_g (lw_at lw_ms 0 rfl) rfl
theorem qs1 : (Cond.selects "TearsQueue$Reader" ⟨"TearsQueue$Reader", "isIn", "(CC)Z"⟩ ⟨"TearsQueue$Reader", "isIn", "(CC)Z"⟩) ∈ lw_all := lw_g (lw_at lw_ms 1 rfl) rfl
theorem qs2 : (Cond.selects "TearsQueue$Reader" ⟨"TearsQueue$Reader", "need", "(ZI)V"⟩ ⟨"TearsQueue$Reader", "need", "(ZI)V"⟩) ∈ lw_all := lw_g (lw_at lw_ms 2 rfl) rfl
theorem qs3 : (Cond.selects "java/lang/NullPointerException" ⟨"java/lang/NullPointerException", "getExtendedNPEMessage", "()Ljava/lang/String;"⟩ ⟨"java/lang/NullPointerException", "getExtendedNPEMessage", "()Ljava/lang/String;"⟩) ∈ lw_all := lw_g (lw_at lw_ms 3 rfl) rfl
theorem qs4 : (Cond.selects "java/lang/Throwable" ⟨"java/lang/Throwable", "fillInStackTrace", "(I)Ljava/lang/Throwable;"⟩ ⟨"java/lang/Throwable", "fillInStackTrace", "(I)Ljava/lang/Throwable;"⟩) ∈ lw_all := lw_g (lw_at lw_ms 4 rfl) rfl
theorem qs5 : (Cond.selects "TearsQueue$Reader" ⟨"TearsQueue$Reader", "line", "()V"⟩ ⟨"TearsQueue$Reader", "line", "()V"⟩) ∈ lw_all := lw_g (lw_at lw_ms 5 rfl) rfl
theorem qs6 : (Cond.selects "TearsQueue$Reader" ⟨"TearsQueue$Reader", "is", "(I)Z"⟩ ⟨"TearsQueue$Reader", "is", "(I)Z"⟩) ∈ lw_all := lw_g (lw_at lw_ms 6 rfl) rfl
theorem qs7 : (Cond.selects "TearsQueue$Reader" ⟨"TearsQueue$Reader", "name", "(I)Ljava/lang/String;"⟩ ⟨"TearsQueue$Reader", "name", "(I)Ljava/lang/String;"⟩) ∈ lw_all := lw_g (lw_at lw_ms 7 rfl) rfl
theorem qs8 : (Cond.selects "TearsQueue$Reader" ⟨"TearsQueue$Reader", "told", "(I)V"⟩ ⟨"TearsQueue$Reader", "told", "(I)V"⟩) ∈ lw_all := lw_g (lw_at lw_ms 8 rfl) rfl
theorem qs9 : (Cond.selects "TearsQueue$Reader" ⟨"TearsQueue$Reader", "taken", "(II)I"⟩ ⟨"TearsQueue$Reader", "taken", "(II)I"⟩) ∈ lw_all := lw_g (lw_at lw_ms 9 rfl) rfl
theorem qs10 : (Cond.selects "TearsQueue$Reader" ⟨"TearsQueue$Reader", "looked", "(II)I"⟩ ⟨"TearsQueue$Reader", "looked", "(II)I"⟩) ∈ lw_all := lw_g (lw_at lw_ms 10 rfl) rfl
theorem qs11 : (Cond.selects "TearsQueue$Reader" ⟨"TearsQueue$Reader", "plan", "()V"⟩ ⟨"TearsQueue$Reader", "plan", "()V"⟩) ∈ lw_all := lw_g (lw_at lw_ms 11 rfl) rfl
theorem qs12 : (Cond.selects "TearsQueue" ⟨"TearsQueue", "isOne", "(I)Z"⟩ ⟨"TearsQueue", "isOne", "(I)Z"⟩) ∈ lw_all := lw_g (lw_at lw_ms 12 rfl) rfl
theorem qs13 : (Cond.selects "TearsQueue" ⟨"TearsQueue", "brim", "(LTearsQueue$Stop;I)I"⟩ ⟨"TearsQueue", "brim", "(LTearsQueue$Stop;I)I"⟩) ∈ lw_all := lw_g (lw_at lw_ms 13 rfl) rfl
theorem qs14 : (Cond.selects "TearsQueue" ⟨"TearsQueue", "isAct", "(I)Z"⟩ ⟨"TearsQueue", "isAct", "(I)Z"⟩) ∈ lw_all := lw_g (lw_at lw_ms 14 rfl) rfl
theorem qs15 : (Cond.selects "TearsQueue" ⟨"TearsQueue", "thinking", "(LTearsQueue$Stop;I)I"⟩ ⟨"TearsQueue", "thinking", "(LTearsQueue$Stop;I)I"⟩) ∈ lw_all := lw_g (lw_at lw_ms 15 rfl) rfl
theorem qs16 : (Cond.selects "TearsQueue" ⟨"TearsQueue", "nextWeeper", "(LTearsQueue$Stop;I)I"⟩ ⟨"TearsQueue", "nextWeeper", "(LTearsQueue$Stop;I)I"⟩) ∈ lw_all := lw_g (lw_at lw_ms 16 rfl) rfl
theorem qs17 : (Cond.selects "TearsQueue" ⟨"TearsQueue", "goes", "(LTearsQueue$Stop;I)V"⟩ ⟨"TearsQueue", "goes", "(LTearsQueue$Stop;I)V"⟩) ∈ lw_all := lw_g (lw_at lw_ms 17 rfl) rfl
theorem qs18 : (Cond.selects "TearsQueue" ⟨"TearsQueue", "begins", "()V"⟩ ⟨"TearsQueue", "begins", "()V"⟩) ∈ lw_all := lw_g (lw_at lw_ms 18 rfl) rfl
theorem qs19 : (Cond.selects "TearsQueue" ⟨"TearsQueue", "acts", "(LTearsQueue$Stop;I)Z"⟩ ⟨"TearsQueue", "acts", "(LTearsQueue$Stop;I)Z"⟩) ∈ lw_all := lw_g (lw_at lw_ms 19 rfl) rfl
theorem qs20 : (Cond.selects "TearsQueue" ⟨"TearsQueue", "readRow", "(III)V"⟩ ⟨"TearsQueue", "readRow", "(III)V"⟩) ∈ lw_all := lw_g (lw_at lw_ms 20 rfl) rfl
theorem qs21 : (Cond.selects "TearsQueue" ⟨"TearsQueue", "rowAct", "(I)I"⟩ ⟨"TearsQueue", "rowAct", "(I)I"⟩) ∈ lw_all := lw_g (lw_at lw_ms 21 rfl) rfl
theorem qs22 : (Cond.selects "TearsQueue" ⟨"TearsQueue", "isHome", "(II)Z"⟩ ⟨"TearsQueue", "isHome", "(II)Z"⟩) ∈ lw_all := lw_g (lw_at lw_ms 22 rfl) rfl
theorem qs23 : (Cond.selects "TearsQueue" ⟨"TearsQueue", "findOdds", "(II)V"⟩ ⟨"TearsQueue", "findOdds", "(II)V"⟩) ∈ lw_all := lw_g (lw_at lw_ms 23 rfl) rfl
theorem qs24 : (Cond.selects "TearsQueue" ⟨"TearsQueue", "which", "(III)I"⟩ ⟨"TearsQueue", "which", "(III)I"⟩) ∈ lw_all := lw_g (lw_at lw_ms 24 rfl) rfl
theorem qs25 : (Cond.selects "TearsQueue" ⟨"TearsQueue", "isSo", "(III)Z"⟩ ⟨"TearsQueue", "isSo", "(III)Z"⟩) ∈ lw_all := lw_g (lw_at lw_ms 25 rfl) rfl
theorem qs26 : (Cond.selects "TearsQueue" ⟨"TearsQueue", "takenOf", "(III)I"⟩ ⟨"TearsQueue", "takenOf", "(III)I"⟩) ∈ lw_all := lw_g (lw_at lw_ms 26 rfl) rfl
theorem qs27 : (Cond.selects "TearsQueueModel" ⟨"TearsQueueModel", "step", "()V"⟩ ⟨"TearsQueueModel", "step", "()V"⟩) ∈ lw_all := lw_g (lw_at lw_ms 27 rfl) rfl
theorem qs28 : (Cond.selects "TearsQueueModel" ⟨"TearsQueueModel", "byteAt", "(I)I"⟩ ⟨"TearsQueueModel", "byteAt", "(I)I"⟩) ∈ lw_all := lw_g (lw_at lw_ms 28 rfl) rfl
theorem qs29 : (Cond.selects "TearsQueueModel" ⟨"TearsQueueModel", "fails", "(I)V"⟩ ⟨"TearsQueueModel", "fails", "(I)V"⟩) ∈ lw_all := lw_g (lw_at lw_ms 29 rfl) rfl
theorem qs30 : (Cond.selects "TearsQueueModel" ⟨"TearsQueueModel", "readLine", "()V"⟩ ⟨"TearsQueueModel", "readLine", "()V"⟩) ∈ lw_all := lw_g (lw_at lw_ms 30 rfl) rfl
theorem qs31 : (Cond.selects "TearsQueueModel" ⟨"TearsQueueModel", "nameHere", "()I"⟩ ⟨"TearsQueueModel", "nameHere", "()I"⟩) ∈ lw_all := lw_g (lw_at lw_ms 31 rfl) rfl
theorem qs32 : (Cond.selects "TearsQueueModel" ⟨"TearsQueueModel", "readMore", "(I)V"⟩ ⟨"TearsQueueModel", "readMore", "(I)V"⟩) ∈ lw_all := lw_g (lw_at lw_ms 32 rfl) rfl
theorem qs33 : (Cond.selects "TearsQueueModel" ⟨"TearsQueueModel", "number", "(II)I"⟩ ⟨"TearsQueueModel", "number", "(II)I"⟩) ∈ lw_all := lw_g (lw_at lw_ms 33 rfl) rfl
theorem qs34 : (Cond.selects "TearsQueueModel" ⟨"TearsQueueModel", "readPlan", "()V"⟩ ⟨"TearsQueueModel", "readPlan", "()V"⟩) ∈ lw_all := lw_g (lw_at lw_ms 34 rfl) rfl
theorem qs35 : (Cond.selects "TearsQueueModel" ⟨"TearsQueueModel", "waitingOn", "(I)I"⟩ ⟨"TearsQueueModel", "waitingOn", "(I)I"⟩) ∈ lw_all := lw_g (lw_at lw_ms 35 rfl) rfl
theorem qs36 : (Cond.selects "TearsQueueModel" ⟨"TearsQueueModel", "sorrowOn", "(I)I"⟩ ⟨"TearsQueueModel", "sorrowOn", "(I)I"⟩) ∈ lw_all := lw_g (lw_at lw_ms 36 rfl) rfl
theorem qs37 : (Cond.selects "TearsQueueModel" ⟨"TearsQueueModel", "waits", "(II)Z"⟩ ⟨"TearsQueueModel", "waits", "(II)Z"⟩) ∈ lw_all := lw_g (lw_at lw_ms 37 rfl) rfl
theorem qs38 : (Cond.selects "TearsQueueModel" ⟨"TearsQueueModel", "isOne", "(I)Z"⟩ ⟨"TearsQueueModel", "isOne", "(I)Z"⟩) ∈ lw_all := lw_g (lw_at lw_ms 38 rfl) rfl
theorem qs39 : (Cond.selects "TearsQueueModel" ⟨"TearsQueueModel", "nextOn", "(II)I"⟩ ⟨"TearsQueueModel", "nextOn", "(II)I"⟩) ∈ lw_all := lw_g (lw_at lw_ms 39 rfl) rfl
theorem qs40 : (Cond.selects "TearsQueueModel" ⟨"TearsQueueModel", "placeOn", "(II)I"⟩ ⟨"TearsQueueModel", "placeOn", "(II)I"⟩) ∈ lw_all := lw_g (lw_at lw_ms 40 rfl) rfl
theorem qs41 : (Cond.selects "TearsQueueModel" ⟨"TearsQueueModel", "puts", "(ZIII)I"⟩ ⟨"TearsQueueModel", "puts", "(ZIII)I"⟩) ∈ lw_all := lw_g (lw_at lw_ms 41 rfl) rfl
theorem qs42 : (Cond.selects "TearsQueueModel" ⟨"TearsQueueModel", "isAct", "(I)Z"⟩ ⟨"TearsQueueModel", "isAct", "(I)Z"⟩) ∈ lw_all := lw_g (lw_at lw_ms 42 rfl) rfl
theorem qs43 : (Cond.selects "TearsQueueModel" ⟨"TearsQueueModel", "thinksOn", "(II)I"⟩ ⟨"TearsQueueModel", "thinksOn", "(II)I"⟩) ∈ lw_all := lw_g (lw_at lw_ms 43 rfl) rfl
theorem qs44 : (Cond.selects "TearsQueueModel" ⟨"TearsQueueModel", "grieves", "(III)V"⟩ ⟨"TearsQueueModel", "grieves", "(III)V"⟩) ∈ lw_all := lw_g (lw_at lw_ms 44 rfl) rfl
theorem qs45 : (Cond.selects "TearsQueueModel" ⟨"TearsQueueModel", "nextToWeep", "(II)I"⟩ ⟨"TearsQueueModel", "nextToWeep", "(II)I"⟩) ∈ lw_all := lw_g (lw_at lw_ms 45 rfl) rfl
theorem qs46 : (Cond.selects "TearsQueueModel" ⟨"TearsQueueModel", "setsOff", "(II)V"⟩ ⟨"TearsQueueModel", "setsOff", "(II)V"⟩) ∈ lw_all := lw_g (lw_at lw_ms 46 rfl) rfl
theorem qs47 : (Cond.selects "TearsQueueModel" ⟨"TearsQueueModel", "minuteOn", "(I)V"⟩ ⟨"TearsQueueModel", "minuteOn", "(I)V"⟩) ∈ lw_all := lw_g (lw_at lw_ms 47 rfl) rfl
theorem qs48 : (Cond.selects "TearsQueueModel" ⟨"TearsQueueModel", "tramOn", "(I)I"⟩ ⟨"TearsQueueModel", "tramOn", "(I)I"⟩) ∈ lw_all := lw_g (lw_at lw_ms 48 rfl) rfl
theorem qs49 : (Cond.selects "TearsQueueModel" ⟨"TearsQueueModel", "planGoes", "(II)V"⟩ ⟨"TearsQueueModel", "planGoes", "(II)V"⟩) ∈ lw_all := lw_g (lw_at lw_ms 49 rfl) rfl
theorem qs50 : (Cond.selects "TearsQueueModel" ⟨"TearsQueueModel", "begins", "(I)V"⟩ ⟨"TearsQueueModel", "begins", "(I)V"⟩) ∈ lw_all := lw_g (lw_at lw_ms 50 rfl) rfl
theorem qs51 : (Cond.selects "TearsQueueModel" ⟨"TearsQueueModel", "copies", "(II)V"⟩ ⟨"TearsQueueModel", "copies", "(II)V"⟩) ∈ lw_all := lw_g (lw_at lw_ms 51 rfl) rfl
theorem qs52 : (Cond.selects "TearsQueueModel" ⟨"TearsQueueModel", "acts", "(I)Z"⟩ ⟨"TearsQueueModel", "acts", "(I)Z"⟩) ∈ lw_all := lw_g (lw_at lw_ms 52 rfl) rfl
theorem qs53 : (Cond.selects "TearsQueueModel" ⟨"TearsQueueModel", "rowGoes", "(III)Z"⟩ ⟨"TearsQueueModel", "rowGoes", "(III)Z"⟩) ∈ lw_all := lw_g (lw_at lw_ms 53 rfl) rfl
theorem qs54 : (Cond.selects "TearsQueueModel" ⟨"TearsQueueModel", "goneThen", "()I"⟩ ⟨"TearsQueueModel", "goneThen", "()I"⟩) ∈ lw_all := lw_g (lw_at lw_ms 54 rfl) rfl
theorem qs55 : (Cond.selects "TearsQueueModel" ⟨"TearsQueueModel", "byFails", "(III)J"⟩ ⟨"TearsQueueModel", "byFails", "(III)J"⟩) ∈ lw_all := lw_g (lw_at lw_ms 55 rfl) rfl
theorem qs56 : (Cond.selects "TearsQueueModel" ⟨"TearsQueueModel", "isAsSeen", "()Z"⟩ ⟨"TearsQueueModel", "isAsSeen", "()Z"⟩) ∈ lw_all := lw_g (lw_at lw_ms 56 rfl) rfl
theorem qs57 : (Cond.selects "TearsQueueModel" ⟨"TearsQueueModel", "sorrowsOf", "(I)I"⟩ ⟨"TearsQueueModel", "sorrowsOf", "(I)I"⟩) ∈ lw_all := lw_g (lw_at lw_ms 57 rfl) rfl
theorem qs58 : (Cond.selects "TearsQueueModel" ⟨"TearsQueueModel", "does", "(I)Z"⟩ ⟨"TearsQueueModel", "does", "(I)Z"⟩) ∈ lw_all := lw_g (lw_at lw_ms 58 rfl) rfl
-- ===== end of PART A; then your names; then what follows =====
