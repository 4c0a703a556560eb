-- ===== PART A: goes FIRST, ahead of the names: the tables' words, and 'selects' of the private methods out of them =====
/-- a private method of a class that the tables say can be made, by its rows of tables_1 -/
def lw_okq (q : MethodName × Nat) : Prop := (q.1.cls ≠ "java/lang/invoke/MethodHandle" ∧ q.1.cls ≠ "java/lang/invoke/VarHandle") ∧ Cond.instantiable q.1.cls q.2 ∈ tables_1 ∧ Cond.privateMethod q.1 ∈ tables_1 ∧ Cond.instanceMethod q.1 ∈ tables_1
set_option maxRecDepth 100000
theorem lw_t1 {w : Cond} (h : w ∈ tables_1_1) : w ∈ tables_1 := List.mem_append_left _ h
theorem lw_t2 {w : Cond} (h : w ∈ tables_1_2) : w ∈ tables_1 := List.mem_append_right _ (List.mem_append_left _ h)
theorem lw_t3 {w : Cond} (h : w ∈ tables_1_3) : w ∈ tables_1 := List.mem_append_right _ (List.mem_append_right _ (List.mem_append_left _ h))
theorem lw_t4 {w : Cond} (h : w ∈ tables_1_4) : w ∈ tables_1 := List.mem_append_right _ (List.mem_append_right _ (List.mem_append_right _ (List.mem_append_left _ h)))
theorem lw_t5 {w : Cond} (h : w ∈ tables_1_5) : w ∈ tables_1 := List.mem_append_right _ (List.mem_append_right _ (List.mem_append_right _ (List.mem_append_right _ (List.mem_append_left _ h))))
theorem lw_t6 {w : Cond} (h : w ∈ tables_1_6) : w ∈ tables_1 := List.mem_append_right _ (List.mem_append_right _ (List.mem_append_right _ (List.mem_append_right _ (List.mem_append_right _ (List.mem_append_left _ h)))))
theorem lw_t7 {w : Cond} (h : w ∈ tables_1_7) : w ∈ tables_1 := List.mem_append_right _ (List.mem_append_right _ (List.mem_append_right _ (List.mem_append_right _ (List.mem_append_right _ (List.mem_append_right _ (List.mem_append_left _ h))))))
theorem lw_t8 {w : Cond} (h : w ∈ tables_1_8) : w ∈ tables_1 := List.mem_append_right _ (List.mem_append_right _ (List.mem_append_right _ (List.mem_append_right _ (List.mem_append_right _ (List.mem_append_right _ (List.mem_append_right _ (List.mem_append_left _ h)))))))
theorem lw_t9 {w : Cond} (h : w ∈ tables_1_9) : w ∈ tables_1 := List.mem_append_right _ (List.mem_append_right _ (List.mem_append_right _ (List.mem_append_right _ (List.mem_append_right _ (List.mem_append_right _ (List.mem_append_right _ (List.mem_append_right _ (List.mem_append_left _ h))))))))
theorem lw_t10 {w : Cond} (h : w ∈ tables_1_10) : w ∈ tables_1 := List.mem_append_right _ (List.mem_append_right _ (List.mem_append_right _ (List.mem_append_right _ (List.mem_append_right _ (List.mem_append_right _ (List.mem_append_right _ (List.mem_append_right _ (List.mem_append_right _ h))))))))
theorem lw_p0 : lw_okq (⟨"java/lang/Throwable", "fillInStackTrace", "(I)Ljava/lang/Throwable;"⟩, 6) := ⟨⟨by decide +kernel, by decide +kernel⟩, lw_t1 (List.mem_of_getElem? (i := 113) rfl), lw_t1 (List.mem_of_getElem? (i := 111) rfl), lw_t1 (List.mem_of_getElem? (i := 112) rfl)⟩
theorem lw_p1 : lw_okq (⟨"SendHall", "lay", "(I)V"⟩, 33) := ⟨⟨by decide +kernel, by decide +kernel⟩, lw_t1 (List.mem_of_getElem? (i := 45) rfl), lw_t3 (List.mem_of_getElem? (i := 110) rfl), lw_t3 (List.mem_of_getElem? (i := 111) rfl)⟩
theorem lw_p2 : lw_okq (⟨"SendHall", "finds", "()Z"⟩, 33) := ⟨⟨by decide +kernel, by decide +kernel⟩, lw_t1 (List.mem_of_getElem? (i := 45) rfl), lw_t3 (List.mem_of_getElem? (i := 129) rfl), lw_t3 (List.mem_of_getElem? (i := 130) rfl)⟩
theorem lw_p3 : lw_okq (⟨"SendHall", "goesThrough", "(I)Z"⟩, 33) := ⟨⟨by decide +kernel, by decide +kernel⟩, lw_t1 (List.mem_of_getElem? (i := 45) rfl), lw_t3 (List.mem_of_getElem? (i := 133) rfl), lw_t3 (List.mem_of_getElem? (i := 134) rfl)⟩
theorem lw_p4 : lw_okq (⟨"SendHall", "begins", "(LSendHall$Life;I)V"⟩, 33) := ⟨⟨by decide +kernel, by decide +kernel⟩, lw_t1 (List.mem_of_getElem? (i := 45) rfl), lw_t3 (List.mem_of_getElem? (i := 137) rfl), lw_t3 (List.mem_of_getElem? (i := 138) rfl)⟩
theorem lw_p5 : lw_okq (⟨"SendHall", "goes", "(LSendHall$Life;ILSendHall$Step;)V"⟩, 33) := ⟨⟨by decide +kernel, by decide +kernel⟩, lw_t1 (List.mem_of_getElem? (i := 45) rfl), lw_t3 (List.mem_of_getElem? (i := 141) rfl), lw_t3 (List.mem_of_getElem? (i := 142) rfl)⟩
theorem lw_p6 : lw_okq (⟨"SendHall", "moves", "(LSendHall$Life;II)I"⟩, 33) := ⟨⟨by decide +kernel, by decide +kernel⟩, lw_t1 (List.mem_of_getElem? (i := 45) rfl), lw_t4 (List.mem_of_getElem? (i := 13) rfl), lw_t4 (List.mem_of_getElem? (i := 14) rfl)⟩
theorem lw_p7 : lw_okq (⟨"SendHall", "mayLie", "(LSendHall$Life;II)Z"⟩, 33) := ⟨⟨by decide +kernel, by decide +kernel⟩, lw_t1 (List.mem_of_getElem? (i := 45) rfl), lw_t4 (List.mem_of_getElem? (i := 21) rfl), lw_t4 (List.mem_of_getElem? (i := 22) rfl)⟩
theorem lw_p8 : lw_okq (⟨"SendHall", "handsOver", "(LSendHall$Life;I)Z"⟩, 33) := ⟨⟨by decide +kernel, by decide +kernel⟩, lw_t1 (List.mem_of_getElem? (i := 45) rfl), lw_t4 (List.mem_of_getElem? (i := 31) rfl), lw_t4 (List.mem_of_getElem? (i := 32) rfl)⟩
theorem lw_p9 : lw_okq (⟨"SendHall", "areAllAt", "(LSendHall$Life;I)Z"⟩, 33) := ⟨⟨by decide +kernel, by decide +kernel⟩, lw_t1 (List.mem_of_getElem? (i := 45) rfl), lw_t4 (List.mem_of_getElem? (i := 64) rfl), lw_t4 (List.mem_of_getElem? (i := 65) rfl)⟩
theorem lw_p10 : lw_okq (⟨"SendHall", "tries", "(IIII)Z"⟩, 33) := ⟨⟨by decide +kernel, by decide +kernel⟩, lw_t1 (List.mem_of_getElem? (i := 45) rfl), lw_t4 (List.mem_of_getElem? (i := 68) rfl), lw_t4 (List.mem_of_getElem? (i := 69) rfl)⟩
theorem lw_p11 : lw_okq (⟨"SendHall$Life", "put", "(ILSendHall$Life;I)V"⟩, 13) := ⟨⟨by decide +kernel, by decide +kernel⟩, lw_t2 (List.mem_of_getElem? (i := 178) rfl), lw_t4 (List.mem_of_getElem? (i := 76) rfl), lw_t4 (List.mem_of_getElem? (i := 77) rfl)⟩
theorem lw_p12 : lw_okq (⟨"SendHall", "notes", "(LSendHall$Life;III)V"⟩, 33) := ⟨⟨by decide +kernel, by decide +kernel⟩, lw_t1 (List.mem_of_getElem? (i := 45) rfl), lw_t4 (List.mem_of_getElem? (i := 80) rfl), lw_t4 (List.mem_of_getElem? (i := 81) rfl)⟩
theorem lw_p13 : lw_okq (⟨"SendHall", "move", "(LSendHall$Life;III)V"⟩, 33) := ⟨⟨by decide +kernel, by decide +kernel⟩, lw_t1 (List.mem_of_getElem? (i := 45) rfl), lw_t4 (List.mem_of_getElem? (i := 84) rfl), lw_t4 (List.mem_of_getElem? (i := 85) rfl)⟩
theorem lw_p14 : lw_okq (⟨"SendHall", "sends", "(LSendHall$Life;ILSendHall$Send;I)V"⟩, 33) := ⟨⟨by decide +kernel, by decide +kernel⟩, lw_t1 (List.mem_of_getElem? (i := 45) rfl), lw_t4 (List.mem_of_getElem? (i := 88) rfl), lw_t4 (List.mem_of_getElem? (i := 89) rfl)⟩
theorem lw_p15 : lw_okq (⟨"SendHall", "clocks", "(II)V"⟩, 33) := ⟨⟨by decide +kernel, by decide +kernel⟩, lw_t1 (List.mem_of_getElem? (i := 45) rfl), lw_t4 (List.mem_of_getElem? (i := 102) rfl), lw_t4 (List.mem_of_getElem? (i := 103) rfl)⟩
def lw_privs_1 : List (MethodName × Nat) := [(⟨"java/lang/Throwable", "fillInStackTrace", "(I)Ljava/lang/Throwable;"⟩, 6), (⟨"SendHall", "lay", "(I)V"⟩, 33), (⟨"SendHall", "finds", "()Z"⟩, 33), (⟨"SendHall", "goesThrough", "(I)Z"⟩, 33), (⟨"SendHall", "begins", "(LSendHall$Life;I)V"⟩, 33), (⟨"SendHall", "goes", "(LSendHall$Life;ILSendHall$Step;)V"⟩, 33), (⟨"SendHall", "moves", "(LSendHall$Life;II)I"⟩, 33), (⟨"SendHall", "mayLie", "(LSendHall$Life;II)Z"⟩, 33), (⟨"SendHall", "handsOver", "(LSendHall$Life;I)Z"⟩, 33), (⟨"SendHall", "areAllAt", "(LSendHall$Life;I)Z"⟩, 33), (⟨"SendHall", "tries", "(IIII)Z"⟩, 33), (⟨"SendHall$Life", "put", "(ILSendHall$Life;I)V"⟩, 13), (⟨"SendHall", "notes", "(LSendHall$Life;III)V"⟩, 33), (⟨"SendHall", "move", "(LSendHall$Life;III)V"⟩, 33), (⟨"SendHall", "sends", "(LSendHall$Life;ILSendHall$Send;I)V"⟩, 33), (⟨"SendHall", "clocks", "(II)V"⟩, 33)]
theorem lw_r1 : ∀ q ∈ lw_privs_1, lw_okq q := List.forall_mem_cons.mpr ⟨lw_p0, List.forall_mem_cons.mpr ⟨lw_p1, List.forall_mem_cons.mpr ⟨lw_p2, List.forall_mem_cons.mpr ⟨lw_p3, List.forall_mem_cons.mpr ⟨lw_p4, List.forall_mem_cons.mpr ⟨lw_p5, List.forall_mem_cons.mpr ⟨lw_p6, List.forall_mem_cons.mpr ⟨lw_p7, List.forall_mem_cons.mpr ⟨lw_p8, List.forall_mem_cons.mpr ⟨lw_p9, List.forall_mem_cons.mpr ⟨lw_p10, List.forall_mem_cons.mpr ⟨lw_p11, List.forall_mem_cons.mpr ⟨lw_p12, List.forall_mem_cons.mpr ⟨lw_p13, List.forall_mem_cons.mpr ⟨lw_p14, List.forall_mem_cons.mpr ⟨lw_p15, fun _ h => absurd h List.not_mem_nil⟩⟩⟩⟩⟩⟩⟩⟩⟩⟩⟩⟩⟩⟩⟩⟩
theorem lw_p16 : lw_okq (⟨"SendHall", "gets", "(LSendHall$Life;IIII)V"⟩, 33) := ⟨⟨by decide +kernel, by decide +kernel⟩, lw_t1 (List.mem_of_getElem? (i := 45) rfl), lw_t4 (List.mem_of_getElem? (i := 106) rfl), lw_t4 (List.mem_of_getElem? (i := 107) rfl)⟩
theorem lw_p17 : lw_okq (⟨"SendHall", "takes", "(LSendHall$Life;II)V"⟩, 33) := ⟨⟨by decide +kernel, by decide +kernel⟩, lw_t1 (List.mem_of_getElem? (i := 45) rfl), lw_t4 (List.mem_of_getElem? (i := 110) rfl), lw_t4 (List.mem_of_getElem? (i := 111) rfl)⟩
theorem lw_p18 : lw_okq (⟨"SendHall", "together", "(LSendHall$Life;I)V"⟩, 33) := ⟨⟨by decide +kernel, by decide +kernel⟩, lw_t1 (List.mem_of_getElem? (i := 45) rfl), lw_t4 (List.mem_of_getElem? (i := 118) rfl), lw_t4 (List.mem_of_getElem? (i := 119) rfl)⟩
theorem lw_p19 : lw_okq (⟨"SendHall", "endsWith", "(LSendHall$Life;)V"⟩, 33) := ⟨⟨by decide +kernel, by decide +kernel⟩, lw_t1 (List.mem_of_getElem? (i := 45) rfl), lw_t4 (List.mem_of_getElem? (i := 127) rfl), lw_t4 (List.mem_of_getElem? (i := 128) rfl)⟩
theorem lw_p20 : lw_okq (⟨"java/util/ArrayList", "rangeCheckForAdd", "(I)V"⟩, 3) := ⟨⟨by decide +kernel, by decide +kernel⟩, lw_t1 (List.mem_of_getElem? (i := 59) rfl), lw_t4 (List.mem_of_getElem? (i := 179) rfl), lw_t4 (List.mem_of_getElem? (i := 180) rfl)⟩
theorem lw_p21 : lw_okq (⟨"java/util/ArrayList", "grow", "()[Ljava/lang/Object;"⟩, 3) := ⟨⟨by decide +kernel, by decide +kernel⟩, lw_t1 (List.mem_of_getElem? (i := 59) rfl), lw_t4 (List.mem_of_getElem? (i := 183) rfl), lw_t4 (List.mem_of_getElem? (i := 184) rfl)⟩
theorem lw_p22 : lw_okq (⟨"java/util/ArrayList", "grow", "(I)[Ljava/lang/Object;"⟩, 3) := ⟨⟨by decide +kernel, by decide +kernel⟩, lw_t1 (List.mem_of_getElem? (i := 59) rfl), lw_t4 (List.mem_of_getElem? (i := 187) rfl), lw_t4 (List.mem_of_getElem? (i := 188) rfl)⟩
theorem lw_p23 : lw_okq (⟨"SendHall", "hasLocked", "()Z"⟩, 33) := ⟨⟨by decide +kernel, by decide +kernel⟩, lw_t1 (List.mem_of_getElem? (i := 45) rfl), lw_t5 (List.mem_of_getElem? (i := 0) rfl), lw_t5 (List.mem_of_getElem? (i := 1) rfl)⟩
theorem lw_p24 : lw_okq (⟨"SendHall$Reader", "go", "()V"⟩, 14) := ⟨⟨by decide +kernel, by decide +kernel⟩, lw_t5 (List.mem_of_getElem? (i := 36) rfl), lw_t5 (List.mem_of_getElem? (i := 47) rfl), lw_t5 (List.mem_of_getElem? (i := 48) rfl)⟩
theorem lw_p25 : lw_okq (⟨"SendHall$Reader", "byteAt", "(I)I"⟩, 14) := ⟨⟨by decide +kernel, by decide +kernel⟩, lw_t5 (List.mem_of_getElem? (i := 36) rfl), lw_t5 (List.mem_of_getElem? (i := 51) rfl), lw_t5 (List.mem_of_getElem? (i := 52) rfl)⟩
theorem lw_p26 : lw_okq (⟨"SendHall$Reader", "steps", "()Ljava/util/ArrayList;"⟩, 14) := ⟨⟨by decide +kernel, by decide +kernel⟩, lw_t5 (List.mem_of_getElem? (i := 36) rfl), lw_t5 (List.mem_of_getElem? (i := 209) rfl), lw_t5 (List.mem_of_getElem? (i := 210) rfl)⟩
theorem lw_p27 : lw_okq (⟨"SendHall$Reader", "check", "(ZI)V"⟩, 14) := ⟨⟨by decide +kernel, by decide +kernel⟩, lw_t5 (List.mem_of_getElem? (i := 36) rfl), lw_t6 (List.mem_of_getElem? (i := 52) rfl), lw_t6 (List.mem_of_getElem? (i := 53) rfl)⟩
theorem lw_p28 : lw_okq (⟨"SendHall$Reader", "step", "(II)LSendHall$Step;"⟩, 14) := ⟨⟨by decide +kernel, by decide +kernel⟩, lw_t5 (List.mem_of_getElem? (i := 36) rfl), lw_t6 (List.mem_of_getElem? (i := 79) rfl), lw_t6 (List.mem_of_getElem? (i := 80) rfl)⟩
theorem lw_p29 : lw_okq (⟨"SendHall$Reader", "send", "(LSendHall$Send;)LSendHall$Step;"⟩, 14) := ⟨⟨by decide +kernel, by decide +kernel⟩, lw_t5 (List.mem_of_getElem? (i := 36) rfl), lw_t6 (List.mem_of_getElem? (i := 147) rfl), lw_t6 (List.mem_of_getElem? (i := 148) rfl)⟩
theorem lw_p30 : lw_okq (⟨"java/util/ArrayList", "add", "(Ljava/lang/Object;[Ljava/lang/Object;I)V"⟩, 3) := ⟨⟨by decide +kernel, by decide +kernel⟩, lw_t1 (List.mem_of_getElem? (i := 59) rfl), lw_t6 (List.mem_of_getElem? (i := 155) rfl), lw_t6 (List.mem_of_getElem? (i := 156) rfl)⟩
theorem lw_p31 : lw_okq (⟨"SendHall$Reader", "sum", "()LSendHall$Expr;"⟩, 14) := ⟨⟨by decide +kernel, by decide +kernel⟩, lw_t5 (List.mem_of_getElem? (i := 36) rfl), lw_t6 (List.mem_of_getElem? (i := 159) rfl), lw_t6 (List.mem_of_getElem? (i := 160) rfl)⟩
def lw_privs_2 : List (MethodName × Nat) := [(⟨"SendHall", "gets", "(LSendHall$Life;IIII)V"⟩, 33), (⟨"SendHall", "takes", "(LSendHall$Life;II)V"⟩, 33), (⟨"SendHall", "together", "(LSendHall$Life;I)V"⟩, 33), (⟨"SendHall", "endsWith", "(LSendHall$Life;)V"⟩, 33), (⟨"java/util/ArrayList", "rangeCheckForAdd", "(I)V"⟩, 3), (⟨"java/util/ArrayList", "grow", "()[Ljava/lang/Object;"⟩, 3), (⟨"java/util/ArrayList", "grow", "(I)[Ljava/lang/Object;"⟩, 3), (⟨"SendHall", "hasLocked", "()Z"⟩, 33), (⟨"SendHall$Reader", "go", "()V"⟩, 14), (⟨"SendHall$Reader", "byteAt", "(I)I"⟩, 14), (⟨"SendHall$Reader", "steps", "()Ljava/util/ArrayList;"⟩, 14), (⟨"SendHall$Reader", "check", "(ZI)V"⟩, 14), (⟨"SendHall$Reader", "step", "(II)LSendHall$Step;"⟩, 14), (⟨"SendHall$Reader", "send", "(LSendHall$Send;)LSendHall$Step;"⟩, 14), (⟨"java/util/ArrayList", "add", "(Ljava/lang/Object;[Ljava/lang/Object;I)V"⟩, 3), (⟨"SendHall$Reader", "sum", "()LSendHall$Expr;"⟩, 14)]
theorem lw_r2 : ∀ q ∈ lw_privs_2, lw_okq q := List.forall_mem_cons.mpr ⟨lw_p16, List.forall_mem_cons.mpr ⟨lw_p17, List.forall_mem_cons.mpr ⟨lw_p18, List.forall_mem_cons.mpr ⟨lw_p19, List.forall_mem_cons.mpr ⟨lw_p20, List.forall_mem_cons.mpr ⟨lw_p21, List.forall_mem_cons.mpr ⟨lw_p22, List.forall_mem_cons.mpr ⟨lw_p23, List.forall_mem_cons.mpr ⟨lw_p24, List.forall_mem_cons.mpr ⟨lw_p25, List.forall_mem_cons.mpr ⟨lw_p26, List.forall_mem_cons.mpr ⟨lw_p27, List.forall_mem_cons.mpr ⟨lw_p28, List.forall_mem_cons.mpr ⟨lw_p29, List.forall_mem_cons.mpr ⟨lw_p30, List.forall_mem_cons.mpr ⟨lw_p31, fun _ h => absurd h List.not_mem_nil⟩⟩⟩⟩⟩⟩⟩⟩⟩⟩⟩⟩⟩⟩⟩⟩
theorem lw_p32 : lw_okq (⟨"SendHall$Reader", "product", "()LSendHall$Expr;"⟩, 14) := ⟨⟨by decide +kernel, by decide +kernel⟩, lw_t5 (List.mem_of_getElem? (i := 36) rfl), lw_t6 (List.mem_of_getElem? (i := 163) rfl), lw_t6 (List.mem_of_getElem? (i := 164) rfl)⟩
theorem lw_p33 : lw_okq (⟨"SendHall$Reader", "part", "()LSendHall$Expr;"⟩, 14) := ⟨⟨by decide +kernel, by decide +kernel⟩, lw_t5 (List.mem_of_getElem? (i := 36) rfl), lw_t6 (List.mem_of_getElem? (i := 167) rfl), lw_t6 (List.mem_of_getElem? (i := 168) rfl)⟩
theorem lw_p34 : lw_okq (⟨"SendHall$Reader", "is", "(Ljava/lang/String;)Z"⟩, 14) := ⟨⟨by decide +kernel, by decide +kernel⟩, lw_t5 (List.mem_of_getElem? (i := 36) rfl), lw_t6 (List.mem_of_getElem? (i := 172) rfl), lw_t6 (List.mem_of_getElem? (i := 173) rfl)⟩
theorem lw_p35 : lw_okq (⟨"SendHall$Reader", "number", "(II)I"⟩, 14) := ⟨⟨by decide +kernel, by decide +kernel⟩, lw_t5 (List.mem_of_getElem? (i := 36) rfl), lw_t6 (List.mem_of_getElem? (i := 178) rfl), lw_t6 (List.mem_of_getElem? (i := 179) rfl)⟩
theorem lw_p36 : lw_okq (⟨"SendHall$Reader", "expr", "()LSendHall$Expr;"⟩, 14) := ⟨⟨by decide +kernel, by decide +kernel⟩, lw_t5 (List.mem_of_getElem? (i := 36) rfl), lw_t6 (List.mem_of_getElem? (i := 190) rfl), lw_t6 (List.mem_of_getElem? (i := 191) rfl)⟩
theorem lw_p37 : lw_okq (⟨"SendHall$Reader", "need", "(Ljava/lang/String;)V"⟩, 14) := ⟨⟨by decide +kernel, by decide +kernel⟩, lw_t5 (List.mem_of_getElem? (i := 36) rfl), lw_t7 (List.mem_of_getElem? (i := 3) rfl), lw_t7 (List.mem_of_getElem? (i := 4) rfl)⟩
theorem lw_p38 : lw_okq (⟨"SendHall$Reader", "wait", "(LSendHall$Wait;)LSendHall$Step;"⟩, 14) := ⟨⟨by decide +kernel, by decide +kernel⟩, lw_t5 (List.mem_of_getElem? (i := 36) rfl), lw_t7 (List.mem_of_getElem? (i := 57) rfl), lw_t7 (List.mem_of_getElem? (i := 58) rfl)⟩
theorem lw_p39 : lw_okq (⟨"SendHall$Reader", "var", "()I"⟩, 14) := ⟨⟨by decide +kernel, by decide +kernel⟩, lw_t5 (List.mem_of_getElem? (i := 36) rfl), lw_t7 (List.mem_of_getElem? (i := 62) rfl), lw_t7 (List.mem_of_getElem? (i := 63) rfl)⟩
theorem lw_p40 : lw_okq (⟨"SendHall$Reader", "choice", "(I)LSendHall$Step;"⟩, 14) := ⟨⟨by decide +kernel, by decide +kernel⟩, lw_t5 (List.mem_of_getElem? (i := 36) rfl), lw_t7 (List.mem_of_getElem? (i := 97) rfl), lw_t7 (List.mem_of_getElem? (i := 98) rfl)⟩
theorem lw_p41 : lw_okq (⟨"SendHall$Reader", "plain", "(LSendHall$Plain;)LSendHall$Step;"⟩, 14) := ⟨⟨by decide +kernel, by decide +kernel⟩, lw_t5 (List.mem_of_getElem? (i := 36) rfl), lw_t7 (List.mem_of_getElem? (i := 147) rfl), lw_t7 (List.mem_of_getElem? (i := 148) rfl)⟩
theorem lw_p42 : lw_okq (⟨"SendHall", "isStep", "(I)Z"⟩, 33) := ⟨⟨by decide +kernel, by decide +kernel⟩, lw_t1 (List.mem_of_getElem? (i := 45) rfl), lw_t7 (List.mem_of_getElem? (i := 195) rfl), lw_t7 (List.mem_of_getElem? (i := 196) rfl)⟩
theorem lw_p43 : lw_okq (⟨"SendHall", "plays", "(LSendHall$Life;II)V"⟩, 33) := ⟨⟨by decide +kernel, by decide +kernel⟩, lw_t1 (List.mem_of_getElem? (i := 45) rfl), lw_t7 (List.mem_of_getElem? (i := 235) rfl), lw_t7 (List.mem_of_getElem? (i := 236) rfl)⟩
theorem lw_p44 : lw_okq (⟨"SendHall", "goesOn", "(LSendHall$Life;II)Z"⟩, 33) := ⟨⟨by decide +kernel, by decide +kernel⟩, lw_t1 (List.mem_of_getElem? (i := 45) rfl), lw_t7 (List.mem_of_getElem? (i := 239) rfl), lw_t8 (List.mem_of_getElem? (i := 0) rfl)⟩
theorem lw_p45 : lw_okq (⟨"SendHall", "nextChoice", "()I"⟩, 33) := ⟨⟨by decide +kernel, by decide +kernel⟩, lw_t1 (List.mem_of_getElem? (i := 45) rfl), lw_t8 (List.mem_of_getElem? (i := 3) rfl), lw_t8 (List.mem_of_getElem? (i := 4) rfl)⟩
theorem lw_p46 : lw_okq (⟨"SendHall", "rounds", "()V"⟩, 33) := ⟨⟨by decide +kernel, by decide +kernel⟩, lw_t1 (List.mem_of_getElem? (i := 45) rfl), lw_t8 (List.mem_of_getElem? (i := 11) rfl), lw_t8 (List.mem_of_getElem? (i := 12) rfl)⟩
theorem lw_p47 : lw_okq (⟨"SendHall", "waitsFor", "(LSendHall$Life;I)I"⟩, 33) := ⟨⟨by decide +kernel, by decide +kernel⟩, lw_t1 (List.mem_of_getElem? (i := 45) rfl), lw_t8 (List.mem_of_getElem? (i := 15) rfl), lw_t8 (List.mem_of_getElem? (i := 16) rfl)⟩
def lw_privs_3 : List (MethodName × Nat) := [(⟨"SendHall$Reader", "product", "()LSendHall$Expr;"⟩, 14), (⟨"SendHall$Reader", "part", "()LSendHall$Expr;"⟩, 14), (⟨"SendHall$Reader", "is", "(Ljava/lang/String;)Z"⟩, 14), (⟨"SendHall$Reader", "number", "(II)I"⟩, 14), (⟨"SendHall$Reader", "expr", "()LSendHall$Expr;"⟩, 14), (⟨"SendHall$Reader", "need", "(Ljava/lang/String;)V"⟩, 14), (⟨"SendHall$Reader", "wait", "(LSendHall$Wait;)LSendHall$Step;"⟩, 14), (⟨"SendHall$Reader", "var", "()I"⟩, 14), (⟨"SendHall$Reader", "choice", "(I)LSendHall$Step;"⟩, 14), (⟨"SendHall$Reader", "plain", "(LSendHall$Plain;)LSendHall$Step;"⟩, 14), (⟨"SendHall", "isStep", "(I)Z"⟩, 33), (⟨"SendHall", "plays", "(LSendHall$Life;II)V"⟩, 33), (⟨"SendHall", "goesOn", "(LSendHall$Life;II)Z"⟩, 33), (⟨"SendHall", "nextChoice", "()I"⟩, 33), (⟨"SendHall", "rounds", "()V"⟩, 33), (⟨"SendHall", "waitsFor", "(LSendHall$Life;I)I"⟩, 33)]
theorem lw_r3 : ∀ q ∈ lw_privs_3, lw_okq q := List.forall_mem_cons.mpr ⟨lw_p32, List.forall_mem_cons.mpr ⟨lw_p33, List.forall_mem_cons.mpr ⟨lw_p34, List.forall_mem_cons.mpr ⟨lw_p35, List.forall_mem_cons.mpr ⟨lw_p36, List.forall_mem_cons.mpr ⟨lw_p37, List.forall_mem_cons.mpr ⟨lw_p38, List.forall_mem_cons.mpr ⟨lw_p39, List.forall_mem_cons.mpr ⟨lw_p40, List.forall_mem_cons.mpr ⟨lw_p41, List.forall_mem_cons.mpr ⟨lw_p42, List.forall_mem_cons.mpr ⟨lw_p43, List.forall_mem_cons.mpr ⟨lw_p44, List.forall_mem_cons.mpr ⟨lw_p45, List.forall_mem_cons.mpr ⟨lw_p46, List.forall_mem_cons.mpr ⟨lw_p47, fun _ h => absurd h List.not_mem_nil⟩⟩⟩⟩⟩⟩⟩⟩⟩⟩⟩⟩⟩⟩⟩⟩
theorem lw_p48 : lw_okq (⟨"SendHallModel", "fail", "(I)I"⟩, 70) := ⟨⟨by decide +kernel, by decide +kernel⟩, lw_t8 (List.mem_of_getElem? (i := 47) rfl), lw_t9 (List.mem_of_getElem? (i := 57) rfl), lw_t9 (List.mem_of_getElem? (i := 58) rfl)⟩
theorem lw_p49 : lw_okq (⟨"SendHallModel", "stepOn", "()V"⟩, 70) := ⟨⟨by decide +kernel, by decide +kernel⟩, lw_t8 (List.mem_of_getElem? (i := 47) rfl), lw_t9 (List.mem_of_getElem? (i := 61) rfl), lw_t9 (List.mem_of_getElem? (i := 62) rfl)⟩
theorem lw_p50 : lw_okq (⟨"SendHallModel", "byteAt", "(I)I"⟩, 70) := ⟨⟨by decide +kernel, by decide +kernel⟩, lw_t8 (List.mem_of_getElem? (i := 47) rfl), lw_t9 (List.mem_of_getElem? (i := 65) rfl), lw_t9 (List.mem_of_getElem? (i := 66) rfl)⟩
theorem lw_p51 : lw_okq (⟨"SendHallModel", "readSteps", "(II)I"⟩, 70) := ⟨⟨by decide +kernel, by decide +kernel⟩, lw_t8 (List.mem_of_getElem? (i := 47) rfl), lw_t9 (List.mem_of_getElem? (i := 77) rfl), lw_t9 (List.mem_of_getElem? (i := 78) rfl)⟩
theorem lw_p52 : lw_okq (⟨"SendHallModel", "is", "(Ljava/lang/String;)Z"⟩, 70) := ⟨⟨by decide +kernel, by decide +kernel⟩, lw_t8 (List.mem_of_getElem? (i := 47) rfl), lw_t9 (List.mem_of_getElem? (i := 82) rfl), lw_t9 (List.mem_of_getElem? (i := 83) rfl)⟩
theorem lw_p53 : lw_okq (⟨"SendHallModel", "readStep", "(I)V"⟩, 70) := ⟨⟨by decide +kernel, by decide +kernel⟩, lw_t8 (List.mem_of_getElem? (i := 47) rfl), lw_t9 (List.mem_of_getElem? (i := 89) rfl), lw_t9 (List.mem_of_getElem? (i := 90) rfl)⟩
theorem lw_p54 : lw_okq (⟨"SendHallModel", "which", "([Ljava/lang/String;)I"⟩, 70) := ⟨⟨by decide +kernel, by decide +kernel⟩, lw_t8 (List.mem_of_getElem? (i := 47) rfl), lw_t9 (List.mem_of_getElem? (i := 93) rfl), lw_t9 (List.mem_of_getElem? (i := 94) rfl)⟩
theorem lw_p55 : lw_okq (⟨"SendHallModel", "wrong", "(I)V"⟩, 70) := ⟨⟨by decide +kernel, by decide +kernel⟩, lw_t8 (List.mem_of_getElem? (i := 47) rfl), lw_t9 (List.mem_of_getElem? (i := 97) rfl), lw_t9 (List.mem_of_getElem? (i := 98) rfl)⟩
theorem lw_p56 : lw_okq (⟨"SendHallModel", "readInto", "(IIZ)V"⟩, 70) := ⟨⟨by decide +kernel, by decide +kernel⟩, lw_t8 (List.mem_of_getElem? (i := 47) rfl), lw_t9 (List.mem_of_getElem? (i := 101) rfl), lw_t9 (List.mem_of_getElem? (i := 102) rfl)⟩
theorem lw_p57 : lw_okq (⟨"SendHallModel", "readExpression", "(I)V"⟩, 70) := ⟨⟨by decide +kernel, by decide +kernel⟩, lw_t8 (List.mem_of_getElem? (i := 47) rfl), lw_t9 (List.mem_of_getElem? (i := 105) rfl), lw_t9 (List.mem_of_getElem? (i := 106) rfl)⟩
theorem lw_p58 : lw_okq (⟨"SendHallModel", "isSign", "(I)Z"⟩, 70) := ⟨⟨by decide +kernel, by decide +kernel⟩, lw_t8 (List.mem_of_getElem? (i := 47) rfl), lw_t9 (List.mem_of_getElem? (i := 109) rfl), lw_t9 (List.mem_of_getElem? (i := 110) rfl)⟩
theorem lw_p59 : lw_okq (⟨"SendHallModel", "readSum", "(I)V"⟩, 70) := ⟨⟨by decide +kernel, by decide +kernel⟩, lw_t8 (List.mem_of_getElem? (i := 47) rfl), lw_t9 (List.mem_of_getElem? (i := 113) rfl), lw_t9 (List.mem_of_getElem? (i := 114) rfl)⟩
theorem lw_p60 : lw_okq (⟨"SendHallModel", "readProduct", "(I)V"⟩, 70) := ⟨⟨by decide +kernel, by decide +kernel⟩, lw_t8 (List.mem_of_getElem? (i := 47) rfl), lw_t9 (List.mem_of_getElem? (i := 117) rfl), lw_t9 (List.mem_of_getElem? (i := 118) rfl)⟩
theorem lw_p61 : lw_okq (⟨"SendHallModel", "readPart", "(I)V"⟩, 70) := ⟨⟨by decide +kernel, by decide +kernel⟩, lw_t8 (List.mem_of_getElem? (i := 47) rfl), lw_t9 (List.mem_of_getElem? (i := 121) rfl), lw_t9 (List.mem_of_getElem? (i := 122) rfl)⟩
theorem lw_p62 : lw_okq (⟨"SendHallModel", "readNumber", "(II)I"⟩, 70) := ⟨⟨by decide +kernel, by decide +kernel⟩, lw_t8 (List.mem_of_getElem? (i := 47) rfl), lw_t9 (List.mem_of_getElem? (i := 125) rfl), lw_t9 (List.mem_of_getElem? (i := 126) rfl)⟩
theorem lw_p63 : lw_okq (⟨"SendHallModel", "emit", "(I)V"⟩, 70) := ⟨⟨by decide +kernel, by decide +kernel⟩, lw_t8 (List.mem_of_getElem? (i := 47) rfl), lw_t9 (List.mem_of_getElem? (i := 129) rfl), lw_t9 (List.mem_of_getElem? (i := 130) rfl)⟩
def lw_privs_4 : List (MethodName × Nat) := [(⟨"SendHallModel", "fail", "(I)I"⟩, 70), (⟨"SendHallModel", "stepOn", "()V"⟩, 70), (⟨"SendHallModel", "byteAt", "(I)I"⟩, 70), (⟨"SendHallModel", "readSteps", "(II)I"⟩, 70), (⟨"SendHallModel", "is", "(Ljava/lang/String;)Z"⟩, 70), (⟨"SendHallModel", "readStep", "(I)V"⟩, 70), (⟨"SendHallModel", "which", "([Ljava/lang/String;)I"⟩, 70), (⟨"SendHallModel", "wrong", "(I)V"⟩, 70), (⟨"SendHallModel", "readInto", "(IIZ)V"⟩, 70), (⟨"SendHallModel", "readExpression", "(I)V"⟩, 70), (⟨"SendHallModel", "isSign", "(I)Z"⟩, 70), (⟨"SendHallModel", "readSum", "(I)V"⟩, 70), (⟨"SendHallModel", "readProduct", "(I)V"⟩, 70), (⟨"SendHallModel", "readPart", "(I)V"⟩, 70), (⟨"SendHallModel", "readNumber", "(II)I"⟩, 70), (⟨"SendHallModel", "emit", "(I)V"⟩, 70)]
theorem lw_r4 : ∀ q ∈ lw_privs_4, lw_okq q := List.forall_mem_cons.mpr ⟨lw_p48, List.forall_mem_cons.mpr ⟨lw_p49, List.forall_mem_cons.mpr ⟨lw_p50, List.forall_mem_cons.mpr ⟨lw_p51, List.forall_mem_cons.mpr ⟨lw_p52, List.forall_mem_cons.mpr ⟨lw_p53, List.forall_mem_cons.mpr ⟨lw_p54, List.forall_mem_cons.mpr ⟨lw_p55, List.forall_mem_cons.mpr ⟨lw_p56, List.forall_mem_cons.mpr ⟨lw_p57, List.forall_mem_cons.mpr ⟨lw_p58, List.forall_mem_cons.mpr ⟨lw_p59, List.forall_mem_cons.mpr ⟨lw_p60, List.forall_mem_cons.mpr ⟨lw_p61, List.forall_mem_cons.mpr ⟨lw_p62, List.forall_mem_cons.mpr ⟨lw_p63, fun _ h => absurd h List.not_mem_nil⟩⟩⟩⟩⟩⟩⟩⟩⟩⟩⟩⟩⟩⟩⟩⟩
theorem lw_p64 : lw_okq (⟨"SendHallModel", "need", "(I)V"⟩, 70) := ⟨⟨by decide +kernel, by decide +kernel⟩, lw_t8 (List.mem_of_getElem? (i := 47) rfl), lw_t9 (List.mem_of_getElem? (i := 133) rfl), lw_t9 (List.mem_of_getElem? (i := 134) rfl)⟩
theorem lw_p65 : lw_okq (⟨"SendHallModel", "word", "(Ljava/lang/String;)V"⟩, 70) := ⟨⟨by decide +kernel, by decide +kernel⟩, lw_t8 (List.mem_of_getElem? (i := 47) rfl), lw_t9 (List.mem_of_getElem? (i := 138) rfl), lw_t9 (List.mem_of_getElem? (i := 139) rfl)⟩
theorem lw_p66 : lw_okq (⟨"SendHallModel", "readVar", "()I"⟩, 70) := ⟨⟨by decide +kernel, by decide +kernel⟩, lw_t8 (List.mem_of_getElem? (i := 47) rfl), lw_t9 (List.mem_of_getElem? (i := 145) rfl), lw_t9 (List.mem_of_getElem? (i := 146) rfl)⟩
theorem lw_p67 : lw_okq (⟨"SendHallModel", "readBranches", "(II)V"⟩, 70) := ⟨⟨by decide +kernel, by decide +kernel⟩, lw_t8 (List.mem_of_getElem? (i := 47) rfl), lw_t9 (List.mem_of_getElem? (i := 153) rfl), lw_t9 (List.mem_of_getElem? (i := 154) rfl)⟩
theorem lw_p68 : lw_okq (⟨"SendHallModel", "anySteps", "()I"⟩, 70) := ⟨⟨by decide +kernel, by decide +kernel⟩, lw_t8 (List.mem_of_getElem? (i := 47) rfl), lw_t9 (List.mem_of_getElem? (i := 170) rfl), lw_t9 (List.mem_of_getElem? (i := 171) rfl)⟩
theorem lw_p69 : lw_okq (⟨"SendHallModel", "isStep", "(I)Z"⟩, 70) := ⟨⟨by decide +kernel, by decide +kernel⟩, lw_t8 (List.mem_of_getElem? (i := 47) rfl), lw_t9 (List.mem_of_getElem? (i := 178) rfl), lw_t9 (List.mem_of_getElem? (i := 179) rfl)⟩
theorem lw_p70 : lw_okq (⟨"SendHallModel", "tell", "()Z"⟩, 70) := ⟨⟨by decide +kernel, by decide +kernel⟩, lw_t8 (List.mem_of_getElem? (i := 47) rfl), lw_t9 (List.mem_of_getElem? (i := 186) rfl), lw_t9 (List.mem_of_getElem? (i := 187) rfl)⟩
theorem lw_p71 : lw_okq (⟨"SendHallModel", "go", "()Z"⟩, 70) := ⟨⟨by decide +kernel, by decide +kernel⟩, lw_t8 (List.mem_of_getElem? (i := 47) rfl), lw_t9 (List.mem_of_getElem? (i := 190) rfl), lw_t9 (List.mem_of_getElem? (i := 191) rfl)⟩
theorem lw_p72 : lw_okq (⟨"SendHallModel", "begin", "()V"⟩, 70) := ⟨⟨by decide +kernel, by decide +kernel⟩, lw_t8 (List.mem_of_getElem? (i := 47) rfl), lw_t9 (List.mem_of_getElem? (i := 194) rfl), lw_t9 (List.mem_of_getElem? (i := 195) rfl)⟩
theorem lw_p73 : lw_okq (⟨"SendHallModel", "come", "(II)V"⟩, 70) := ⟨⟨by decide +kernel, by decide +kernel⟩, lw_t8 (List.mem_of_getElem? (i := 47) rfl), lw_t9 (List.mem_of_getElem? (i := 198) rfl), lw_t9 (List.mem_of_getElem? (i := 199) rfl)⟩
theorem lw_p74 : lw_okq (⟨"SendHallModel", "put", "(III)V"⟩, 70) := ⟨⟨by decide +kernel, by decide +kernel⟩, lw_t8 (List.mem_of_getElem? (i := 47) rfl), lw_t9 (List.mem_of_getElem? (i := 202) rfl), lw_t9 (List.mem_of_getElem? (i := 203) rfl)⟩
theorem lw_p75 : lw_okq (⟨"SendHallModel", "following", "(I)I"⟩, 70) := ⟨⟨by decide +kernel, by decide +kernel⟩, lw_t8 (List.mem_of_getElem? (i := 47) rfl), lw_t9 (List.mem_of_getElem? (i := 206) rfl), lw_t9 (List.mem_of_getElem? (i := 207) rfl)⟩
theorem lw_p76 : lw_okq (⟨"SendHallModel", "asked", "(II)I"⟩, 70) := ⟨⟨by decide +kernel, by decide +kernel⟩, lw_t8 (List.mem_of_getElem? (i := 47) rfl), lw_t9 (List.mem_of_getElem? (i := 210) rfl), lw_t9 (List.mem_of_getElem? (i := 211) rfl)⟩
theorem lw_p77 : lw_okq (⟨"SendHallModel", "own", "(II)I"⟩, 70) := ⟨⟨by decide +kernel, by decide +kernel⟩, lw_t8 (List.mem_of_getElem? (i := 47) rfl), lw_t9 (List.mem_of_getElem? (i := 214) rfl), lw_t9 (List.mem_of_getElem? (i := 215) rfl)⟩
theorem lw_p78 : lw_okq (⟨"SendHallModel", "valueOf", "(II)I"⟩, 70) := ⟨⟨by decide +kernel, by decide +kernel⟩, lw_t8 (List.mem_of_getElem? (i := 47) rfl), lw_t9 (List.mem_of_getElem? (i := 218) rfl), lw_t9 (List.mem_of_getElem? (i := 219) rfl)⟩
theorem lw_p79 : lw_okq (⟨"SendHallModel", "hasOther", "(I)Z"⟩, 70) := ⟨⟨by decide +kernel, by decide +kernel⟩, lw_t8 (List.mem_of_getElem? (i := 47) rfl), lw_t9 (List.mem_of_getElem? (i := 225) rfl), lw_t9 (List.mem_of_getElem? (i := 226) rfl)⟩
def lw_privs_5 : List (MethodName × Nat) := [(⟨"SendHallModel", "need", "(I)V"⟩, 70), (⟨"SendHallModel", "word", "(Ljava/lang/String;)V"⟩, 70), (⟨"SendHallModel", "readVar", "()I"⟩, 70), (⟨"SendHallModel", "readBranches", "(II)V"⟩, 70), (⟨"SendHallModel", "anySteps", "()I"⟩, 70), (⟨"SendHallModel", "isStep", "(I)Z"⟩, 70), (⟨"SendHallModel", "tell", "()Z"⟩, 70), (⟨"SendHallModel", "go", "()Z"⟩, 70), (⟨"SendHallModel", "begin", "()V"⟩, 70), (⟨"SendHallModel", "come", "(II)V"⟩, 70), (⟨"SendHallModel", "put", "(III)V"⟩, 70), (⟨"SendHallModel", "following", "(I)I"⟩, 70), (⟨"SendHallModel", "asked", "(II)I"⟩, 70), (⟨"SendHallModel", "own", "(II)I"⟩, 70), (⟨"SendHallModel", "valueOf", "(II)I"⟩, 70), (⟨"SendHallModel", "hasOther", "(I)Z"⟩, 70)]
theorem lw_r5 : ∀ q ∈ lw_privs_5, lw_okq q := List.forall_mem_cons.mpr ⟨lw_p64, List.forall_mem_cons.mpr ⟨lw_p65, List.forall_mem_cons.mpr ⟨lw_p66, List.forall_mem_cons.mpr ⟨lw_p67, List.forall_mem_cons.mpr ⟨lw_p68, List.forall_mem_cons.mpr ⟨lw_p69, List.forall_mem_cons.mpr ⟨lw_p70, List.forall_mem_cons.mpr ⟨lw_p71, List.forall_mem_cons.mpr ⟨lw_p72, List.forall_mem_cons.mpr ⟨lw_p73, List.forall_mem_cons.mpr ⟨lw_p74, List.forall_mem_cons.mpr ⟨lw_p75, List.forall_mem_cons.mpr ⟨lw_p76, List.forall_mem_cons.mpr ⟨lw_p77, List.forall_mem_cons.mpr ⟨lw_p78, List.forall_mem_cons.mpr ⟨lw_p79, fun _ h => absurd h List.not_mem_nil⟩⟩⟩⟩⟩⟩⟩⟩⟩⟩⟩⟩⟩⟩⟩⟩
theorem lw_p80 : lw_okq (⟨"SendHallModel", "keep", "()V"⟩, 70) := ⟨⟨by decide +kernel, by decide +kernel⟩, lw_t8 (List.mem_of_getElem? (i := 47) rfl), lw_t9 (List.mem_of_getElem? (i := 229) rfl), lw_t9 (List.mem_of_getElem? (i := 230) rfl)⟩
theorem lw_p81 : lw_okq (⟨"SendHallModel", "words", "()I"⟩, 70) := ⟨⟨by decide +kernel, by decide +kernel⟩, lw_t8 (List.mem_of_getElem? (i := 47) rfl), lw_t9 (List.mem_of_getElem? (i := 233) rfl), lw_t9 (List.mem_of_getElem? (i := 234) rfl)⟩
theorem lw_p82 : lw_okq (⟨"SendHallModel", "used", "(I)I"⟩, 70) := ⟨⟨by decide +kernel, by decide +kernel⟩, lw_t8 (List.mem_of_getElem? (i := 47) rfl), lw_t9 (List.mem_of_getElem? (i := 237) rfl), lw_t9 (List.mem_of_getElem? (i := 238) rfl)⟩
theorem lw_p83 : lw_okq (⟨"SendHallModel", "from", "(I)V"⟩, 70) := ⟨⟨by decide +kernel, by decide +kernel⟩, lw_t8 (List.mem_of_getElem? (i := 47) rfl), lw_t10 (List.mem_of_getElem? (i := 1) rfl), lw_t10 (List.mem_of_getElem? (i := 2) rfl)⟩
theorem lw_p84 : lw_okq (⟨"SendHallModel", "bring", "(I)V"⟩, 70) := ⟨⟨by decide +kernel, by decide +kernel⟩, lw_t8 (List.mem_of_getElem? (i := 47) rfl), lw_t10 (List.mem_of_getElem? (i := 5) rfl), lw_t10 (List.mem_of_getElem? (i := 6) rfl)⟩
theorem lw_p85 : lw_okq (⟨"SendHallModel", "isAt", "(II)Z"⟩, 70) := ⟨⟨by decide +kernel, by decide +kernel⟩, lw_t8 (List.mem_of_getElem? (i := 47) rfl), lw_t10 (List.mem_of_getElem? (i := 9) rfl), lw_t10 (List.mem_of_getElem? (i := 10) rfl)⟩
theorem lw_p86 : lw_okq (⟨"SendHallModel", "can", "(II)Z"⟩, 70) := ⟨⟨by decide +kernel, by decide +kernel⟩, lw_t8 (List.mem_of_getElem? (i := 47) rfl), lw_t10 (List.mem_of_getElem? (i := 13) rfl), lw_t10 (List.mem_of_getElem? (i := 14) rfl)⟩
theorem lw_p87 : lw_okq (⟨"SendHallModel", "sent", "(II)I"⟩, 70) := ⟨⟨by decide +kernel, by decide +kernel⟩, lw_t8 (List.mem_of_getElem? (i := 47) rfl), lw_t10 (List.mem_of_getElem? (i := 17) rfl), lw_t10 (List.mem_of_getElem? (i := 18) rfl)⟩
theorem lw_p88 : lw_okq (⟨"SendHallModel", "hands", "(I)Z"⟩, 70) := ⟨⟨by decide +kernel, by decide +kernel⟩, lw_t8 (List.mem_of_getElem? (i := 47) rfl), lw_t10 (List.mem_of_getElem? (i := 24) rfl), lw_t10 (List.mem_of_getElem? (i := 25) rfl)⟩
theorem lw_p89 : lw_okq (⟨"SendHallModel", "lying", "(III)I"⟩, 70) := ⟨⟨by decide +kernel, by decide +kernel⟩, lw_t8 (List.mem_of_getElem? (i := 47) rfl), lw_t10 (List.mem_of_getElem? (i := 28) rfl), lw_t10 (List.mem_of_getElem? (i := 29) rfl)⟩
theorem lw_p90 : lw_okq (⟨"SendHallModel", "begun", "(I)I"⟩, 70) := ⟨⟨by decide +kernel, by decide +kernel⟩, lw_t8 (List.mem_of_getElem? (i := 47) rfl), lw_t10 (List.mem_of_getElem? (i := 32) rfl), lw_t10 (List.mem_of_getElem? (i := 33) rfl)⟩
theorem lw_p91 : lw_okq (⟨"SendHallModel", "areAll", "(I)Z"⟩, 70) := ⟨⟨by decide +kernel, by decide +kernel⟩, lw_t8 (List.mem_of_getElem? (i := 47) rfl), lw_t10 (List.mem_of_getElem? (i := 36) rfl), lw_t10 (List.mem_of_getElem? (i := 37) rfl)⟩
theorem lw_p92 : lw_okq (⟨"SendHallModel", "move", "(II)V"⟩, 70) := ⟨⟨by decide +kernel, by decide +kernel⟩, lw_t8 (List.mem_of_getElem? (i := 47) rfl), lw_t10 (List.mem_of_getElem? (i := 40) rfl), lw_t10 (List.mem_of_getElem? (i := 41) rfl)⟩
theorem lw_p93 : lw_okq (⟨"SendHallModel", "lay", "(IZ)V"⟩, 70) := ⟨⟨by decide +kernel, by decide +kernel⟩, lw_t8 (List.mem_of_getElem? (i := 47) rfl), lw_t10 (List.mem_of_getElem? (i := 44) rfl), lw_t10 (List.mem_of_getElem? (i := 45) rfl)⟩
theorem lw_p94 : lw_okq (⟨"SendHallModel", "farOf", "(II)I"⟩, 70) := ⟨⟨by decide +kernel, by decide +kernel⟩, lw_t8 (List.mem_of_getElem? (i := 47) rfl), lw_t10 (List.mem_of_getElem? (i := 48) rfl), lw_t10 (List.mem_of_getElem? (i := 49) rfl)⟩
theorem lw_p95 : lw_okq (⟨"SendHallModel", "goOn", "(I)V"⟩, 70) := ⟨⟨by decide +kernel, by decide +kernel⟩, lw_t8 (List.mem_of_getElem? (i := 47) rfl), lw_t10 (List.mem_of_getElem? (i := 53) rfl), lw_t10 (List.mem_of_getElem? (i := 54) rfl)⟩
def lw_privs_6 : List (MethodName × Nat) := [(⟨"SendHallModel", "keep", "()V"⟩, 70), (⟨"SendHallModel", "words", "()I"⟩, 70), (⟨"SendHallModel", "used", "(I)I"⟩, 70), (⟨"SendHallModel", "from", "(I)V"⟩, 70), (⟨"SendHallModel", "bring", "(I)V"⟩, 70), (⟨"SendHallModel", "isAt", "(II)Z"⟩, 70), (⟨"SendHallModel", "can", "(II)Z"⟩, 70), (⟨"SendHallModel", "sent", "(II)I"⟩, 70), (⟨"SendHallModel", "hands", "(I)Z"⟩, 70), (⟨"SendHallModel", "lying", "(III)I"⟩, 70), (⟨"SendHallModel", "begun", "(I)I"⟩, 70), (⟨"SendHallModel", "areAll", "(I)Z"⟩, 70), (⟨"SendHallModel", "move", "(II)V"⟩, 70), (⟨"SendHallModel", "lay", "(IZ)V"⟩, 70), (⟨"SendHallModel", "farOf", "(II)I"⟩, 70), (⟨"SendHallModel", "goOn", "(I)V"⟩, 70)]
theorem lw_r6 : ∀ q ∈ lw_privs_6, lw_okq q := List.forall_mem_cons.mpr ⟨lw_p80, List.forall_mem_cons.mpr ⟨lw_p81, List.forall_mem_cons.mpr ⟨lw_p82, List.forall_mem_cons.mpr ⟨lw_p83, List.forall_mem_cons.mpr ⟨lw_p84, List.forall_mem_cons.mpr ⟨lw_p85, List.forall_mem_cons.mpr ⟨lw_p86, List.forall_mem_cons.mpr ⟨lw_p87, List.forall_mem_cons.mpr ⟨lw_p88, List.forall_mem_cons.mpr ⟨lw_p89, List.forall_mem_cons.mpr ⟨lw_p90, List.forall_mem_cons.mpr ⟨lw_p91, List.forall_mem_cons.mpr ⟨lw_p92, List.forall_mem_cons.mpr ⟨lw_p93, List.forall_mem_cons.mpr ⟨lw_p94, List.forall_mem_cons.mpr ⟨lw_p95, fun _ h => absurd h List.not_mem_nil⟩⟩⟩⟩⟩⟩⟩⟩⟩⟩⟩⟩⟩⟩⟩⟩
theorem lw_p96 : lw_okq (⟨"SendHallModel", "handOver", "(I)V"⟩, 70) := ⟨⟨by decide +kernel, by decide +kernel⟩, lw_t8 (List.mem_of_getElem? (i := 47) rfl), lw_t10 (List.mem_of_getElem? (i := 57) rfl), lw_t10 (List.mem_of_getElem? (i := 58) rfl)⟩
theorem lw_p97 : lw_okq (⟨"SendHallModel", "upTo", "(II)V"⟩, 70) := ⟨⟨by decide +kernel, by decide +kernel⟩, lw_t8 (List.mem_of_getElem? (i := 47) rfl), lw_t10 (List.mem_of_getElem? (i := 62) rfl), lw_t10 (List.mem_of_getElem? (i := 63) rfl)⟩
theorem lw_p98 : lw_okq (⟨"SendHallModel", "noteAny", "(II)V"⟩, 70) := ⟨⟨by decide +kernel, by decide +kernel⟩, lw_t8 (List.mem_of_getElem? (i := 47) rfl), lw_t10 (List.mem_of_getElem? (i := 66) rfl), lw_t10 (List.mem_of_getElem? (i := 67) rfl)⟩
theorem lw_p99 : lw_okq (⟨"SendHallModel", "has", "(IIII)V"⟩, 70) := ⟨⟨by decide +kernel, by decide +kernel⟩, lw_t8 (List.mem_of_getElem? (i := 47) rfl), lw_t10 (List.mem_of_getElem? (i := 70) rfl), lw_t10 (List.mem_of_getElem? (i := 71) rfl)⟩
theorem lw_p100 : lw_okq (⟨"SendHallModel", "take", "(III)V"⟩, 70) := ⟨⟨by decide +kernel, by decide +kernel⟩, lw_t8 (List.mem_of_getElem? (i := 47) rfl), lw_t10 (List.mem_of_getElem? (i := 74) rfl), lw_t10 (List.mem_of_getElem? (i := 75) rfl)⟩
theorem lw_p101 : lw_okq (⟨"SendHallModel", "takeAway", "(I)V"⟩, 70) := ⟨⟨by decide +kernel, by decide +kernel⟩, lw_t8 (List.mem_of_getElem? (i := 47) rfl), lw_t10 (List.mem_of_getElem? (i := 78) rfl), lw_t10 (List.mem_of_getElem? (i := 79) rfl)⟩
theorem lw_p102 : lw_okq (⟨"SendHallModel", "together", "(I)V"⟩, 70) := ⟨⟨by decide +kernel, by decide +kernel⟩, lw_t8 (List.mem_of_getElem? (i := 47) rfl), lw_t10 (List.mem_of_getElem? (i := 82) rfl), lw_t10 (List.mem_of_getElem? (i := 83) rfl)⟩
theorem lw_p103 : lw_okq (⟨"SendHallModel", "showEnding", "()V"⟩, 70) := ⟨⟨by decide +kernel, by decide +kernel⟩, lw_t8 (List.mem_of_getElem? (i := 47) rfl), lw_t10 (List.mem_of_getElem? (i := 86) rfl), lw_t10 (List.mem_of_getElem? (i := 87) rfl)⟩
theorem lw_p104 : lw_okq (⟨"SendHallModel", "kindNow", "()I"⟩, 70) := ⟨⟨by decide +kernel, by decide +kernel⟩, lw_t8 (List.mem_of_getElem? (i := 47) rfl), lw_t10 (List.mem_of_getElem? (i := 90) rfl), lw_t10 (List.mem_of_getElem? (i := 91) rfl)⟩
theorem lw_p105 : lw_okq (⟨"SendHallModel", "isHand", "(I)Z"⟩, 70) := ⟨⟨by decide +kernel, by decide +kernel⟩, lw_t8 (List.mem_of_getElem? (i := 47) rfl), lw_t10 (List.mem_of_getElem? (i := 113) rfl), lw_t10 (List.mem_of_getElem? (i := 114) rfl)⟩
theorem lw_p106 : lw_okq (⟨"SendHallModel", "someLocks", "()Z"⟩, 70) := ⟨⟨by decide +kernel, by decide +kernel⟩, lw_t8 (List.mem_of_getElem? (i := 47) rfl), lw_t10 (List.mem_of_getElem? (i := 121) rfl), lw_t10 (List.mem_of_getElem? (i := 122) rfl)⟩
theorem lw_p107 : lw_okq (⟨"SendHallModel", "refuse", "(I)Z"⟩, 70) := ⟨⟨by decide +kernel, by decide +kernel⟩, lw_t8 (List.mem_of_getElem? (i := 47) rfl), lw_t10 (List.mem_of_getElem? (i := 133) rfl), lw_t10 (List.mem_of_getElem? (i := 134) rfl)⟩
theorem lw_p108 : lw_okq (⟨"SendHallModel", "run", "(IJ)I"⟩, 70) := ⟨⟨by decide +kernel, by decide +kernel⟩, lw_t8 (List.mem_of_getElem? (i := 47) rfl), lw_t10 (List.mem_of_getElem? (i := 141) rfl), lw_t10 (List.mem_of_getElem? (i := 142) rfl)⟩
theorem lw_p109 : lw_okq (⟨"SendHallModel", "waitsFor", "(I)I"⟩, 70) := ⟨⟨by decide +kernel, by decide +kernel⟩, lw_t8 (List.mem_of_getElem? (i := 47) rfl), lw_t10 (List.mem_of_getElem? (i := 145) rfl), lw_t10 (List.mem_of_getElem? (i := 146) rfl)⟩
theorem lw_p110 : lw_okq (⟨"SendHallModel", "tellRing", "()V"⟩, 70) := ⟨⟨by decide +kernel, by decide +kernel⟩, lw_t8 (List.mem_of_getElem? (i := 47) rfl), lw_t10 (List.mem_of_getElem? (i := 149) rfl), lw_t10 (List.mem_of_getElem? (i := 150) rfl)⟩
theorem lw_p111 : lw_okq (⟨"SendHallModel", "hasPlay", "()Z"⟩, 70) := ⟨⟨by decide +kernel, by decide +kernel⟩, lw_t8 (List.mem_of_getElem? (i := 47) rfl), lw_t10 (List.mem_of_getElem? (i := 157) rfl), lw_t10 (List.mem_of_getElem? (i := 158) rfl)⟩
def lw_privs_7 : List (MethodName × Nat) := [(⟨"SendHallModel", "handOver", "(I)V"⟩, 70), (⟨"SendHallModel", "upTo", "(II)V"⟩, 70), (⟨"SendHallModel", "noteAny", "(II)V"⟩, 70), (⟨"SendHallModel", "has", "(IIII)V"⟩, 70), (⟨"SendHallModel", "take", "(III)V"⟩, 70), (⟨"SendHallModel", "takeAway", "(I)V"⟩, 70), (⟨"SendHallModel", "together", "(I)V"⟩, 70), (⟨"SendHallModel", "showEnding", "()V"⟩, 70), (⟨"SendHallModel", "kindNow", "()I"⟩, 70), (⟨"SendHallModel", "isHand", "(I)Z"⟩, 70), (⟨"SendHallModel", "someLocks", "()Z"⟩, 70), (⟨"SendHallModel", "refuse", "(I)Z"⟩, 70), (⟨"SendHallModel", "run", "(IJ)I"⟩, 70), (⟨"SendHallModel", "waitsFor", "(I)I"⟩, 70), (⟨"SendHallModel", "tellRing", "()V"⟩, 70), (⟨"SendHallModel", "hasPlay", "()Z"⟩, 70)]
theorem lw_r7 : ∀ q ∈ lw_privs_7, lw_okq q := List.forall_mem_cons.mpr ⟨lw_p96, List.forall_mem_cons.mpr ⟨lw_p97, List.forall_mem_cons.mpr ⟨lw_p98, List.forall_mem_cons.mpr ⟨lw_p99, List.forall_mem_cons.mpr ⟨lw_p100, List.forall_mem_cons.mpr ⟨lw_p101, List.forall_mem_cons.mpr ⟨lw_p102, List.forall_mem_cons.mpr ⟨lw_p103, List.forall_mem_cons.mpr ⟨lw_p104, List.forall_mem_cons.mpr ⟨lw_p105, List.forall_mem_cons.mpr ⟨lw_p106, List.forall_mem_cons.mpr ⟨lw_p107, List.forall_mem_cons.mpr ⟨lw_p108, List.forall_mem_cons.mpr ⟨lw_p109, List.forall_mem_cons.mpr ⟨lw_p110, List.forall_mem_cons.mpr ⟨lw_p111, fun _ h => absurd h List.not_mem_nil⟩⟩⟩⟩⟩⟩⟩⟩⟩⟩⟩⟩⟩⟩⟩⟩
def lw_privs : List (MethodName × Nat) := lw_privs_1 ++ (lw_privs_2 ++ (lw_privs_3 ++ (lw_privs_4 ++ (lw_privs_5 ++ (lw_privs_6 ++ (lw_privs_7))))))
def lw_tbl : List Cond := k2_sels lw_privs ++ tables_1
theorem lw_privs_ok : ∀ q ∈ lw_privs, lw_okq q := by
  show ∀ q ∈ lw_privs_1 ++ (lw_privs_2 ++ (lw_privs_3 ++ (lw_privs_4 ++ (lw_privs_5 ++ (lw_privs_6 ++ (lw_privs_7)))))), lw_okq q
  exact List.forall_mem_append.mpr ⟨lw_r1, List.forall_mem_append.mpr ⟨lw_r2, List.forall_mem_append.mpr ⟨lw_r3, List.forall_mem_append.mpr ⟨lw_r4, List.forall_mem_append.mpr ⟨lw_r5, List.forall_mem_append.mpr ⟨lw_r6, lw_r7⟩⟩⟩⟩⟩⟩
-- ===== ONE list of words for every method: the tables' words that hold all through a run =====
def lw_all : List Cond := lw_tbl.filter goodWord
/-- a word of the tables by its place: claim/WORDS.tsv -/
theorem lw_w {w : Cond} (i : Nat) (h : lw_tbl[i]? = some w) (g : goodWord w = true) : w ∈ lw_all := List.mem_filter.mpr ⟨List.mem_of_getElem? h, g⟩
theorem lw_all_tbl {w : Cond} (h : w ∈ lw_all) : w ∈ lw_tbl := (List.mem_filter.mp h).1
theorem lw_self : GoodIn lw_all lw_all := fun w h => ⟨h, good_of_word (List.mem_filter.mp h).2⟩
/-- a class's field words, by their places -/
theorem lw_in (ws : List Cond) (ps : List Nat) (hp : ws = ps.filterMap (fun i => lw_tbl[i]?)) (hg : ws.all goodWord = true) : ∀ w ∈ ws, w ∈ lw_all := by
  intro w h
  have h1 := List.all_eq_true.mp hg w h
  rw [hp] at h
  obtain ⟨i, -, hi⟩ := List.mem_filterMap.mp h
  exact lw_w i hi h1
/-- the words of a contract for the method y with code b, L locals, answer r -/
abbrev ws_ (y : MethodName) (b : ByteArray) (L : Nat) (r : Option FieldType) : List Cond := Cond.code y b L r :: lw_all
theorem lw_meth {y : MethodName} {b : ByteArray} {L : Nat} {r : Option FieldType} (h : Cond.code y b L r ∈ lw_all) : GoodIn lw_all (ws_ y b L r) := by
  intro w hw
  rcases List.mem_cons.mp hw with e | e
  · rw [e]
    exact lw_self _ h
  · exact lw_self _ e
theorem lw_app {a c : List Cond} (ha : ∀ w ∈ a, w ∈ lw_all) (hc : GoodIn lw_all c) : GoodIn lw_all (a ++ c) := by
  intro w hw
  rcases List.mem_append.mp hw with e | e
  · exact lw_self w (ha w e)
  · exact hc w e
/-- what a call through an object asks: cwV n hts (lw_V ..) -/
theorem lw_V {own : String} {idx : Nat} {C : String} {y : MethodName} {b : ByteArray} {L : Nat} {r : Option FieldType} (h1 : Cond.methodLink own idx y ∈ lw_all) (h2 : Cond.instanceMethod y ∈ lw_all) (h3 : Cond.selects C y y ∈ lw_all) (h4 : Cond.initialized C ∈ lw_all) (h5 : Cond.code y b L r ∈ lw_all) : GoodIn lw_all (wsV own idx C y (ws_ y b L r)) := by
  refine lw_app ?_ (lw_meth h5)
  intro w hw
  simp only [List.mem_cons, List.not_mem_nil, or_false] at hw
  rcases hw with e | e | e | e
  · rw [e]; exact h1
  · rw [e]; exact h2
  · rw [e]; exact h3
  · rw [e]; exact h4
/-- what a static call asks: va_cwS n hts (lw_S ..) -/
theorem lw_S {own : String} {idx : Nat} {y : MethodName} {b : ByteArray} {L : Nat} {r : Option FieldType} (h1 : Cond.methodLink own idx y ∈ lw_all) (h2 : Cond.static y ∈ lw_all) (h3 : Cond.initialized y.cls ∈ lw_all) (h4 : Cond.code y b L r ∈ lw_all) : GoodIn lw_all (va_wsS own idx y (ws_ y b L r)) := by
  refine lw_app ?_ (lw_meth h4)
  intro w hw
  simp only [List.mem_cons, List.not_mem_nil, or_false] at hw
  rcases hw with e | e | e
  · rw [e]; exact h1
  · rw [e]; exact h2
  · rw [e]; exact h3
/-- the words of a contract for a method WITH HANDLERS (hh: its table) -/
abbrev wsW_ (y : MethodName) (b : ByteArray) (L : Nat) (r : Option FieldType) (hh : List (Nat × Nat × Nat × Nat)) : List Cond := Cond.codeWith y b L r hh :: lw_all
theorem lw_methW {y : MethodName} {b : ByteArray} {L : Nat} {r : Option FieldType} {hh : List (Nat × Nat × Nat × Nat)} (h : Cond.codeWith y b L r hh ∈ lw_all) : GoodIn lw_all (wsW_ y b L r hh) := by
  intro w hw
  rcases List.mem_cons.mp hw with e | e
  · rw [e]
    exact lw_self _ h
  · exact lw_self _ e
/-- any list of words by their places (lw_in), good -/
theorem lw_good {ws : List Cond} (h : ∀ w ∈ ws, w ∈ lw_all) : GoodIn lw_all ws := fun w hw => lw_self w (h w hw)
/-- what a call of a method with handlers asks: vx_cwVW n hts (lw_VW ..), vx_cwSW n hts (lw_SW ..) -/
theorem lw_VW {own : String} {idx : Nat} {C : String} {y : MethodName} {b : ByteArray} {L : Nat} {r : Option FieldType} {hh : List (Nat × Nat × Nat × Nat)} (h1 : Cond.methodLink own idx y ∈ lw_all) (h2 : Cond.instanceMethod y ∈ lw_all) (h3 : Cond.selects C y y ∈ lw_all) (h4 : Cond.initialized C ∈ lw_all) (h5 : Cond.codeWith y b L r hh ∈ lw_all) : GoodIn lw_all (wsV own idx C y (wsW_ y b L r hh)) := by
  refine lw_app ?_ (lw_methW h5)
  intro w hw
  simp only [List.mem_cons, List.not_mem_nil, or_false] at hw
  rcases hw with e | e | e | e
  · rw [e]; exact h1
  · rw [e]; exact h2
  · rw [e]; exact h3
  · rw [e]; exact h4
theorem lw_SW {own : String} {idx : Nat} {y : MethodName} {b : ByteArray} {L : Nat} {r : Option FieldType} {hh : List (Nat × Nat × Nat × Nat)} (h1 : Cond.methodLink own idx y ∈ lw_all) (h2 : Cond.static y ∈ lw_all) (h3 : Cond.initialized y.cls ∈ lw_all) (h4 : Cond.codeWith y b L r hh ∈ lw_all) : GoodIn lw_all (va_wsS own idx y (wsW_ y b L r hh)) := by
  refine lw_app ?_ (lw_methW h4)
  intro w hw
  simp only [List.mem_cons, List.not_mem_nil, or_false] at hw
  rcases hw with e | e | e
  · rw [e]; exact h1
  · rw [e]; exact h2
  · rw [e]; exact h3
/-- a word by its place in its run of the tables -/
theorem lw_at {r : List Cond} (hr : ∀ w ∈ r, w ∈ lw_tbl) {w : Cond} (i : Nat) (h : r[i]? = some w) : w ∈ lw_tbl := hr w (List.mem_of_getElem? h)
theorem lw_g {w : Cond} (h : w ∈ lw_tbl) (g : goodWord w = true) : w ∈ lw_all := List.mem_filter.mpr ⟨h, g⟩
theorem lw_ms : ∀ w ∈ k2_sels lw_privs, w ∈ lw_tbl := fun w h => show w ∈ k2_sels lw_privs ++ tables_1 from List.mem_append_left _ h
theorem lw_m1 : ∀ w ∈ tables_1_1, w ∈ lw_tbl := fun w h => show w ∈ k2_sels lw_privs ++ tables_1 from List.mem_append_right (k2_sels lw_privs) (show w ∈ tables_1 from List.mem_append_left _ h)
theorem lw_m2 : ∀ w ∈ tables_1_2, w ∈ lw_tbl := fun w h => show w ∈ k2_sels lw_privs ++ tables_1 from List.mem_append_right (k2_sels lw_privs) (show w ∈ tables_1 from List.mem_append_right _ (List.mem_append_left _ h))
theorem lw_m3 : ∀ w ∈ tables_1_3, w ∈ lw_tbl := fun w h => show w ∈ k2_sels lw_privs ++ tables_1 from List.mem_append_right (k2_sels lw_privs) (show w ∈ tables_1 from List.mem_append_right _ (List.mem_append_right _ (List.mem_append_left _ h)))
theorem lw_m4 : ∀ w ∈ tables_1_4, w ∈ lw_tbl := fun w h => show w ∈ k2_sels lw_privs ++ tables_1 from List.mem_append_right (k2_sels lw_privs) (show w ∈ tables_1 from List.mem_append_right _ (List.mem_append_right _ (List.mem_append_right _ (List.mem_append_left _ h))))
theorem lw_m5 : ∀ w ∈ tables_1_5, w ∈ lw_tbl := fun w h => show w ∈ k2_sels lw_privs ++ tables_1 from List.mem_append_right (k2_sels lw_privs) (show w ∈ tables_1 from List.mem_append_right _ (List.mem_append_right _ (List.mem_append_right _ (List.mem_append_right _ (List.mem_append_left _ h)))))
theorem lw_m6 : ∀ w ∈ tables_1_6, w ∈ lw_tbl := fun w h => show w ∈ k2_sels lw_privs ++ tables_1 from List.mem_append_right (k2_sels lw_privs) (show w ∈ tables_1 from List.mem_append_right _ (List.mem_append_right _ (List.mem_append_right _ (List.mem_append_right _ (List.mem_append_right _ (List.mem_append_left _ h))))))
theorem lw_m7 : ∀ w ∈ tables_1_7, w ∈ lw_tbl := fun w h => show w ∈ k2_sels lw_privs ++ tables_1 from List.mem_append_right (k2_sels lw_privs) (show w ∈ tables_1 from List.mem_append_right _ (List.mem_append_right _ (List.mem_append_right _ (List.mem_append_right _ (List.mem_append_right _ (List.mem_append_right _ (List.mem_append_left _ h)))))))
theorem lw_m8 : ∀ w ∈ tables_1_8, w ∈ lw_tbl := fun w h => show w ∈ k2_sels lw_privs ++ tables_1 from List.mem_append_right (k2_sels lw_privs) (show w ∈ tables_1 from List.mem_append_right _ (List.mem_append_right _ (List.mem_append_right _ (List.mem_append_right _ (List.mem_append_right _ (List.mem_append_right _ (List.mem_append_right _ (List.mem_append_left _ h))))))))
theorem lw_m9 : ∀ w ∈ tables_1_9, w ∈ lw_tbl := fun w h => show w ∈ k2_sels lw_privs ++ tables_1 from List.mem_append_right (k2_sels lw_privs) (show w ∈ tables_1 from List.mem_append_right _ (List.mem_append_right _ (List.mem_append_right _ (List.mem_append_right _ (List.mem_append_right _ (List.mem_append_right _ (List.mem_append_right _ (List.mem_append_right _ (List.mem_append_left _ h)))))))))
theorem lw_m10 : ∀ w ∈ tables_1_10, w ∈ lw_tbl := fun w h => show w ∈ k2_sels lw_privs ++ tables_1 from List.mem_append_right (k2_sels lw_privs) (show w ∈ tables_1 from List.mem_append_right _ (List.mem_append_right _ (List.mem_append_right _ (List.mem_append_right _ (List.mem_append_right _ (List.mem_append_right _ (List.mem_append_right _ (List.mem_append_right _ (List.mem_append_right _ h)))))))))
theorem qs0 : (Cond.selects "java/lang/Throwable" ⟨"java/lang/Throwable", "fillInStackTrace", "(I)Ljava/lang/Throwable;"⟩ ⟨"java/lang/Throwable", "fillInStackTrace", "(I)Ljava/lang/Throwable;"⟩) ∈ lw_all := lw_g (lw_at lw_ms 0 rfl) rfl
theorem qs1 : (Cond.selects "SendHall" ⟨"SendHall", "lay", "(I)V"⟩ ⟨"SendHall", "lay", "(I)V"⟩) ∈ lw_all := lw_g (lw_at lw_ms 1 rfl) rfl
theorem qs2 : (Cond.selects "SendHall" ⟨"SendHall", "finds", "()Z"⟩ ⟨"SendHall", "finds", "()Z"⟩) ∈ lw_all := lw_g (lw_at lw_ms 2 rfl) rfl
theorem qs3 : (Cond.selects "SendHall" ⟨"SendHall", "goesThrough", "(I)Z"⟩ ⟨"SendHall", "goesThrough", "(I)Z"⟩) ∈ lw_all := lw_g (lw_at lw_ms 3 rfl) rfl
theorem qs4 : (Cond.selects "SendHall" ⟨"SendHall", "begins", "(LSendHall$Life;I)V"⟩ ⟨"SendHall", "begins", "(LSendHall$Life;I)V"⟩) ∈ lw_all := lw_g (lw_at lw_ms 4 rfl) rfl
theorem qs5 : (Cond.selects "SendHall" ⟨"SendHall", "goes", "(LSendHall$Life;ILSendHall$Step;)V"⟩ ⟨"SendHall", "goes", "(LSendHall$Life;ILSendHall$Step;)V"⟩) ∈ lw_all := lw_g (lw_at lw_ms 5 rfl) rfl
theorem qs6 : (Cond.selects "SendHall" ⟨"SendHall", "moves", "(LSendHall$Life;II)I"⟩ ⟨"SendHall", "moves", "(LSendHall$Life;II)I"⟩) ∈ lw_all := lw_g (lw_at lw_ms 6 rfl) rfl
theorem qs7 : (Cond.selects "SendHall" ⟨"SendHall", "mayLie", "(LSendHall$Life;II)Z"⟩ ⟨"SendHall", "mayLie", "(LSendHall$Life;II)Z"⟩) ∈ lw_all := lw_g (lw_at lw_ms 7 rfl) rfl
theorem qs8 : (Cond.selects "SendHall" ⟨"SendHall", "handsOver", "(LSendHall$Life;I)Z"⟩ ⟨"SendHall", "handsOver", "(LSendHall$Life;I)Z"⟩) ∈ lw_all := lw_g (lw_at lw_ms 8 rfl) rfl
theorem qs9 : (Cond.selects "SendHall" ⟨"SendHall", "areAllAt", "(LSendHall$Life;I)Z"⟩ ⟨"SendHall", "areAllAt", "(LSendHall$Life;I)Z"⟩) ∈ lw_all := lw_g (lw_at lw_ms 9 rfl) rfl
theorem qs10 : (Cond.selects "SendHall" ⟨"SendHall", "tries", "(IIII)Z"⟩ ⟨"SendHall", "tries", "(IIII)Z"⟩) ∈ lw_all := lw_g (lw_at lw_ms 10 rfl) rfl
theorem qs11 : (Cond.selects "SendHall$Life" ⟨"SendHall$Life", "put", "(ILSendHall$Life;I)V"⟩ ⟨"SendHall$Life", "put", "(ILSendHall$Life;I)V"⟩) ∈ lw_all := lw_g (lw_at lw_ms 11 rfl) rfl
theorem qs12 : (Cond.selects "SendHall" ⟨"SendHall", "notes", "(LSendHall$Life;III)V"⟩ ⟨"SendHall", "notes", "(LSendHall$Life;III)V"⟩) ∈ lw_all := lw_g (lw_at lw_ms 12 rfl) rfl
theorem qs13 : (Cond.selects "SendHall" ⟨"SendHall", "move", "(LSendHall$Life;III)V"⟩ ⟨"SendHall", "move", "(LSendHall$Life;III)V"⟩) ∈ lw_all := lw_g (lw_at lw_ms 13 rfl) rfl
theorem qs14 : (Cond.selects "SendHall" ⟨"SendHall", "sends", "(LSendHall$Life;ILSendHall$Send;I)V"⟩ ⟨"SendHall", "sends", "(LSendHall$Life;ILSendHall$Send;I)V"⟩) ∈ lw_all := lw_g (lw_at lw_ms 14 rfl) rfl
theorem qs15 : (Cond.selects "SendHall" ⟨"SendHall", "clocks", "(II)V"⟩ ⟨"SendHall", "clocks", "(II)V"⟩) ∈ lw_all := lw_g (lw_at lw_ms 15 rfl) rfl
theorem qs16 : (Cond.selects "SendHall" ⟨"SendHall", "gets", "(LSendHall$Life;IIII)V"⟩ ⟨"SendHall", "gets", "(LSendHall$Life;IIII)V"⟩) ∈ lw_all := lw_g (lw_at lw_ms 16 rfl) rfl
theorem qs17 : (Cond.selects "SendHall" ⟨"SendHall", "takes", "(LSendHall$Life;II)V"⟩ ⟨"SendHall", "takes", "(LSendHall$Life;II)V"⟩) ∈ lw_all := lw_g (lw_at lw_ms 17 rfl) rfl
theorem qs18 : (Cond.selects "SendHall" ⟨"SendHall", "together", "(LSendHall$Life;I)V"⟩ ⟨"SendHall", "together", "(LSendHall$Life;I)V"⟩) ∈ lw_all := lw_g (lw_at lw_ms 18 rfl) rfl
theorem qs19 : (Cond.selects "SendHall" ⟨"SendHall", "endsWith", "(LSendHall$Life;)V"⟩ ⟨"SendHall", "endsWith", "(LSendHall$Life;)V"⟩) ∈ lw_all := lw_g (lw_at lw_ms 19 rfl) rfl
theorem qs20 : (Cond.selects "java/util/ArrayList" ⟨"java/util/ArrayList", "rangeCheckForAdd", "(I)V"⟩ ⟨"java/util/ArrayList", "rangeCheckForAdd", "(I)V"⟩) ∈ lw_all := lw_g (lw_at lw_ms 20 rfl) rfl
theorem qs21 : (Cond.selects "java/util/ArrayList" ⟨"java/util/ArrayList", "grow", "()[Ljava/lang/Object;"⟩ ⟨"java/util/ArrayList", "grow", "()[Ljava/lang/Object;"⟩) ∈ lw_all := lw_g (lw_at lw_ms 21 rfl) rfl
theorem qs22 : (Cond.selects "java/util/ArrayList" ⟨"java/util/ArrayList", "grow", "(I)[Ljava/lang/Object;"⟩ ⟨"java/util/ArrayList", "grow", "(I)[Ljava/lang/Object;"⟩) ∈ lw_all := lw_g (lw_at lw_ms 22 rfl) rfl
theorem qs23 : (Cond.selects "SendHall" ⟨"SendHall", "hasLocked", "()Z"⟩ ⟨"SendHall", "hasLocked", "()Z"⟩) ∈ lw_all := lw_g (lw_at lw_ms 23 rfl) rfl
theorem qs24 : (Cond.selects "SendHall$Reader" ⟨"SendHall$Reader", "go", "()V"⟩ ⟨"SendHall$Reader", "go", "()V"⟩) ∈ lw_all := lw_g (lw_at lw_ms 24 rfl) rfl
theorem qs25 : (Cond.selects "SendHall$Reader" ⟨"SendHall$Reader", "byteAt", "(I)I"⟩ ⟨"SendHall$Reader", "byteAt", "(I)I"⟩) ∈ lw_all := lw_g (lw_at lw_ms 25 rfl) rfl
theorem qs26 : (Cond.selects "SendHall$Reader" ⟨"SendHall$Reader", "steps", "()Ljava/util/ArrayList;"⟩ ⟨"SendHall$Reader", "steps", "()Ljava/util/ArrayList;"⟩) ∈ lw_all := lw_g (lw_at lw_ms 26 rfl) rfl
theorem qs27 : (Cond.selects "SendHall$Reader" ⟨"SendHall$Reader", "check", "(ZI)V"⟩ ⟨"SendHall$Reader", "check", "(ZI)V"⟩) ∈ lw_all := lw_g (lw_at lw_ms 27 rfl) rfl
theorem qs28 : (Cond.selects "SendHall$Reader" ⟨"SendHall$Reader", "step", "(II)LSendHall$Step;"⟩ ⟨"SendHall$Reader", "step", "(II)LSendHall$Step;"⟩) ∈ lw_all := lw_g (lw_at lw_ms 28 rfl) rfl
theorem qs29 : (Cond.selects "SendHall$Reader" ⟨"SendHall$Reader", "send", "(LSendHall$Send;)LSendHall$Step;"⟩ ⟨"SendHall$Reader", "send", "(LSendHall$Send;)LSendHall$Step;"⟩) ∈ lw_all := lw_g (lw_at lw_ms 29 rfl) rfl
theorem qs30 : (Cond.selects "java/util/ArrayList" ⟨"java/util/ArrayList", "add", "(Ljava/lang/Object;[Ljava/lang/Object;I)V"⟩ ⟨"java/util/ArrayList", "add", "(Ljava/lang/Object;[Ljava/lang/Object;I)V"⟩) ∈ lw_all := lw_g (lw_at lw_ms 30 rfl) rfl
theorem qs31 : (Cond.selects "SendHall$Reader" ⟨"SendHall$Reader", "sum", "()LSendHall$Expr;"⟩ ⟨"SendHall$Reader", "sum", "()LSendHall$Expr;"⟩) ∈ lw_all := lw_g (lw_at lw_ms 31 rfl) rfl
theorem qs32 : (Cond.selects "SendHall$Reader" ⟨"SendHall$Reader", "product", "()LSendHall$Expr;"⟩ ⟨"SendHall$Reader", "product", "()LSendHall$Expr;"⟩) ∈ lw_all := lw_g (lw_at lw_ms 32 rfl) rfl
theorem qs33 : (Cond.selects "SendHall$Reader" ⟨"SendHall$Reader", "part", "()LSendHall$Expr;"⟩ ⟨"SendHall$Reader", "part", "()LSendHall$Expr;"⟩) ∈ lw_all := lw_g (lw_at lw_ms 33 rfl) rfl
theorem qs34 : (Cond.selects "SendHall$Reader" ⟨"SendHall$Reader", "is", "(Ljava/lang/String;)Z"⟩ ⟨"SendHall$Reader", "is", "(Ljava/lang/String;)Z"⟩) ∈ lw_all := lw_g (lw_at lw_ms 34 rfl) rfl
theorem qs35 : (Cond.selects "SendHall$Reader" ⟨"SendHall$Reader", "number", "(II)I"⟩ ⟨"SendHall$Reader", "number", "(II)I"⟩) ∈ lw_all := lw_g (lw_at lw_ms 35 rfl) rfl
theorem qs36 : (Cond.selects "SendHall$Reader" ⟨"SendHall$Reader", "expr", "()LSendHall$Expr;"⟩ ⟨"SendHall$Reader", "expr", "()LSendHall$Expr;"⟩) ∈ lw_all := lw_g (lw_at lw_ms 36 rfl) rfl
theorem qs37 : (Cond.selects "SendHall$Reader" ⟨"SendHall$Reader", "need", "(Ljava/lang/String;)V"⟩ ⟨"SendHall$Reader", "need", "(Ljava/lang/String;)V"⟩) ∈ lw_all := lw_g (lw_at lw_ms 37 rfl) rfl
theorem qs38 : (Cond.selects "SendHall$Reader" ⟨"SendHall$Reader", "wait", "(LSendHall$Wait;)LSendHall$Step;"⟩ ⟨"SendHall$Reader", "wait", "(LSendHall$Wait;)LSendHall$Step;"⟩) ∈ lw_all := lw_g (lw_at lw_ms 38 rfl) rfl
theorem qs39 : (Cond.selects "SendHall$Reader" ⟨"SendHall$Reader", "var", "()I"⟩ ⟨"SendHall$Reader", "var", "()I"⟩) ∈ lw_all := lw_g (lw_at lw_ms 39 rfl) rfl
theorem qs40 : (Cond.selects "SendHall$Reader" ⟨"SendHall$Reader", "choice", "(I)LSendHall$Step;"⟩ ⟨"SendHall$Reader", "choice", "(I)LSendHall$Step;"⟩) ∈ lw_all := lw_g (lw_at lw_ms 40 rfl) rfl
theorem qs41 : (Cond.selects "SendHall$Reader" ⟨"SendHall$Reader", "plain", "(LSendHall$Plain;)LSendHall$Step;"⟩ ⟨"SendHall$Reader", "plain", "(LSendHall$Plain;)LSendHall$Step;"⟩) ∈ lw_all := lw_g (lw_at lw_ms 41 rfl) rfl
theorem qs42 : (Cond.selects "SendHall" ⟨"SendHall", "isStep", "(I)Z"⟩ ⟨"SendHall", "isStep", "(I)Z"⟩) ∈ lw_all := lw_g (lw_at lw_ms 42 rfl) rfl
theorem qs43 : (Cond.selects "SendHall" ⟨"SendHall", "plays", "(LSendHall$Life;II)V"⟩ ⟨"SendHall", "plays", "(LSendHall$Life;II)V"⟩) ∈ lw_all := lw_g (lw_at lw_ms 43 rfl) rfl
theorem qs44 : (Cond.selects "SendHall" ⟨"SendHall", "goesOn", "(LSendHall$Life;II)Z"⟩ ⟨"SendHall", "goesOn", "(LSendHall$Life;II)Z"⟩) ∈ lw_all := lw_g (lw_at lw_ms 44 rfl) rfl
theorem qs45 : (Cond.selects "SendHall" ⟨"SendHall", "nextChoice", "()I"⟩ ⟨"SendHall", "nextChoice", "()I"⟩) ∈ lw_all := lw_g (lw_at lw_ms 45 rfl) rfl
theorem qs46 : (Cond.selects "SendHall" ⟨"SendHall", "rounds", "()V"⟩ ⟨"SendHall", "rounds", "()V"⟩) ∈ lw_all := lw_g (lw_at lw_ms 46 rfl) rfl
theorem qs47 : (Cond.selects "SendHall" ⟨"SendHall", "waitsFor", "(LSendHall$Life;I)I"⟩ ⟨"SendHall", "waitsFor", "(LSendHall$Life;I)I"⟩) ∈ lw_all := lw_g (lw_at lw_ms 47 rfl) rfl
theorem qs48 : (Cond.selects "SendHallModel" ⟨"SendHallModel", "fail", "(I)I"⟩ ⟨"SendHallModel", "fail", "(I)I"⟩) ∈ lw_all := lw_g (lw_at lw_ms 48 rfl) rfl
theorem qs49 : (Cond.selects "SendHallModel" ⟨"SendHallModel", "stepOn", "()V"⟩ ⟨"SendHallModel", "stepOn", "()V"⟩) ∈ lw_all := lw_g (lw_at lw_ms 49 rfl) rfl
theorem qs50 : (Cond.selects "SendHallModel" ⟨"SendHallModel", "byteAt", "(I)I"⟩ ⟨"SendHallModel", "byteAt", "(I)I"⟩) ∈ lw_all := lw_g (lw_at lw_ms 50 rfl) rfl
theorem qs51 : (Cond.selects "SendHallModel" ⟨"SendHallModel", "readSteps", "(II)I"⟩ ⟨"SendHallModel", "readSteps", "(II)I"⟩) ∈ lw_all := lw_g (lw_at lw_ms 51 rfl) rfl
theorem qs52 : (Cond.selects "SendHallModel" ⟨"SendHallModel", "is", "(Ljava/lang/String;)Z"⟩ ⟨"SendHallModel", "is", "(Ljava/lang/String;)Z"⟩) ∈ lw_all := lw_g (lw_at lw_ms 52 rfl) rfl
theorem qs53 : (Cond.selects "SendHallModel" ⟨"SendHallModel", "readStep", "(I)V"⟩ ⟨"SendHallModel", "readStep", "(I)V"⟩) ∈ lw_all := lw_g (lw_at lw_ms 53 rfl) rfl
theorem qs54 : (Cond.selects "SendHallModel" ⟨"SendHallModel", "which", "([Ljava/lang/String;)I"⟩ ⟨"SendHallModel", "which", "([Ljava/lang/String;)I"⟩) ∈ lw_all := lw_g (lw_at lw_ms 54 rfl) rfl
theorem qs55 : (Cond.selects "SendHallModel" ⟨"SendHallModel", "wrong", "(I)V"⟩ ⟨"SendHallModel", "wrong", "(I)V"⟩) ∈ lw_all := lw_g (lw_at lw_ms 55 rfl) rfl
theorem qs56 : (Cond.selects "SendHallModel" ⟨"SendHallModel", "readInto", "(IIZ)V"⟩ ⟨"SendHallModel", "readInto", "(IIZ)V"⟩) ∈ lw_all := lw_g (lw_at lw_ms 56 rfl) rfl
theorem qs57 : (Cond.selects "SendHallModel" ⟨"SendHallModel", "readExpression", "(I)V"⟩ ⟨"SendHallModel", "readExpression", "(I)V"⟩) ∈ lw_all := lw_g (lw_at lw_ms 57 rfl) rfl
theorem qs58 : (Cond.selects "SendHallModel" ⟨"SendHallModel", "isSign", "(I)Z"⟩ ⟨"SendHallModel", "isSign", "(I)Z"⟩) ∈ lw_all := lw_g (lw_at lw_ms 58 rfl) rfl
theorem qs59 : (Cond.selects "SendHallModel" ⟨"SendHallModel", "readSum", "(I)V"⟩ ⟨"SendHallModel", "readSum", "(I)V"⟩) ∈ lw_all := lw_g (lw_at lw_ms 59 rfl) rfl
theorem qs60 : (Cond.selects "SendHallModel" ⟨"SendHallModel", "readProduct", "(I)V"⟩ ⟨"SendHallModel", "readProduct", "(I)V"⟩) ∈ lw_all := lw_g (lw_at lw_ms 60 rfl) rfl
theorem qs61 : (Cond.selects "SendHallModel" ⟨"SendHallModel", "readPart", "(I)V"⟩ ⟨"SendHallModel", "readPart", "(I)V"⟩) ∈ lw_all := lw_g (lw_at lw_ms 61 rfl) rfl
theorem qs62 : (Cond.selects "SendHallModel" ⟨"SendHallModel", "readNumber", "(II)I"⟩ ⟨"SendHallModel", "readNumber", "(II)I"⟩) ∈ lw_all := lw_g (lw_at lw_ms 62 rfl) rfl
theorem qs63 : (Cond.selects "SendHallModel" ⟨"SendHallModel", "emit", "(I)V"⟩ ⟨"SendHallModel", "emit", "(I)V"⟩) ∈ lw_all := lw_g (lw_at lw_ms 63 rfl) rfl
theorem qs64 : (Cond.selects "SendHallModel" ⟨"SendHallModel", "need", "(I)V"⟩ ⟨"SendHallModel", "need", "(I)V"⟩) ∈ lw_all := lw_g (lw_at lw_ms 64 rfl) rfl
theorem qs65 : (Cond.selects "SendHallModel" ⟨"SendHallModel", "word", "(Ljava/lang/String;)V"⟩ ⟨"SendHallModel", "word", "(Ljava/lang/String;)V"⟩) ∈ lw_all := lw_g (lw_at lw_ms 65 rfl) rfl
theorem qs66 : (Cond.selects "SendHallModel" ⟨"SendHallModel", "readVar", "()I"⟩ ⟨"SendHallModel", "readVar", "()I"⟩) ∈ lw_all := lw_g (lw_at lw_ms 66 rfl) rfl
theorem qs67 : (Cond.selects "SendHallModel" ⟨"SendHallModel", "readBranches", "(II)V"⟩ ⟨"SendHallModel", "readBranches", "(II)V"⟩) ∈ lw_all := lw_g (lw_at lw_ms 67 rfl) rfl
theorem qs68 : (Cond.selects "SendHallModel" ⟨"SendHallModel", "anySteps", "()I"⟩ ⟨"SendHallModel", "anySteps", "()I"⟩) ∈ lw_all := lw_g (lw_at lw_ms 68 rfl) rfl
theorem qs69 : (Cond.selects "SendHallModel" ⟨"SendHallModel", "isStep", "(I)Z"⟩ ⟨"SendHallModel", "isStep", "(I)Z"⟩) ∈ lw_all := lw_g (lw_at lw_ms 69 rfl) rfl
theorem qs70 : (Cond.selects "SendHallModel" ⟨"SendHallModel", "tell", "()Z"⟩ ⟨"SendHallModel", "tell", "()Z"⟩) ∈ lw_all := lw_g (lw_at lw_ms 70 rfl) rfl
theorem qs71 : (Cond.selects "SendHallModel" ⟨"SendHallModel", "go", "()Z"⟩ ⟨"SendHallModel", "go", "()Z"⟩) ∈ lw_all := lw_g (lw_at lw_ms 71 rfl) rfl
theorem qs72 : (Cond.selects "SendHallModel" ⟨"SendHallModel", "begin", "()V"⟩ ⟨"SendHallModel", "begin", "()V"⟩) ∈ lw_all := lw_g (lw_at lw_ms 72 rfl) rfl
theorem qs73 : (Cond.selects "SendHallModel" ⟨"SendHallModel", "come", "(II)V"⟩ ⟨"SendHallModel", "come", "(II)V"⟩) ∈ lw_all := lw_g (lw_at lw_ms 73 rfl) rfl
theorem qs74 : (Cond.selects "SendHallModel" ⟨"SendHallModel", "put", "(III)V"⟩ ⟨"SendHallModel", "put", "(III)V"⟩) ∈ lw_all := lw_g (lw_at lw_ms 74 rfl) rfl
theorem qs75 : (Cond.selects "SendHallModel" ⟨"SendHallModel", "following", "(I)I"⟩ ⟨"SendHallModel", "following", "(I)I"⟩) ∈ lw_all := lw_g (lw_at lw_ms 75 rfl) rfl
theorem qs76 : (Cond.selects "SendHallModel" ⟨"SendHallModel", "asked", "(II)I"⟩ ⟨"SendHallModel", "asked", "(II)I"⟩) ∈ lw_all := lw_g (lw_at lw_ms 76 rfl) rfl
theorem qs77 : (Cond.selects "SendHallModel" ⟨"SendHallModel", "own", "(II)I"⟩ ⟨"SendHallModel", "own", "(II)I"⟩) ∈ lw_all := lw_g (lw_at lw_ms 77 rfl) rfl
theorem qs78 : (Cond.selects "SendHallModel" ⟨"SendHallModel", "valueOf", "(II)I"⟩ ⟨"SendHallModel", "valueOf", "(II)I"⟩) ∈ lw_all := lw_g (lw_at lw_ms 78 rfl) rfl
theorem qs79 : (Cond.selects "SendHallModel" ⟨"SendHallModel", "hasOther", "(I)Z"⟩ ⟨"SendHallModel", "hasOther", "(I)Z"⟩) ∈ lw_all := lw_g (lw_at lw_ms 79 rfl) rfl
theorem qs80 : (Cond.selects "SendHallModel" ⟨"SendHallModel", "keep", "()V"⟩ ⟨"SendHallModel", "keep", "()V"⟩) ∈ lw_all := lw_g (lw_at lw_ms 80 rfl) rfl
theorem qs81 : (Cond.selects "SendHallModel" ⟨"SendHallModel", "words", "()I"⟩ ⟨"SendHallModel", "words", "()I"⟩) ∈ lw_all := lw_g (lw_at lw_ms 81 rfl) rfl
theorem qs82 : (Cond.selects "SendHallModel" ⟨"SendHallModel", "used", "(I)I"⟩ ⟨"SendHallModel", "used", "(I)I"⟩) ∈ lw_all := lw_g (lw_at lw_ms 82 rfl) rfl
theorem qs83 : (Cond.selects "SendHallModel" ⟨"SendHallModel", "from", "(I)V"⟩ ⟨"SendHallModel", "from", "(I)V"⟩) ∈ lw_all := lw_g (lw_at lw_ms 83 rfl) rfl
theorem qs84 : (Cond.selects "SendHallModel" ⟨"SendHallModel", "bring", "(I)V"⟩ ⟨"SendHallModel", "bring", "(I)V"⟩) ∈ lw_all := lw_g (lw_at lw_ms 84 rfl) rfl
theorem qs85 : (Cond.selects "SendHallModel" ⟨"SendHallModel", "isAt", "(II)Z"⟩ ⟨"SendHallModel", "isAt", "(II)Z"⟩) ∈ lw_all := lw_g (lw_at lw_ms 85 rfl) rfl
theorem qs86 : (Cond.selects "SendHallModel" ⟨"SendHallModel", "can", "(II)Z"⟩ ⟨"SendHallModel", "can", "(II)Z"⟩) ∈ lw_all := lw_g (lw_at lw_ms 86 rfl) rfl
theorem qs87 : (Cond.selects "SendHallModel" ⟨"SendHallModel", "sent", "(II)I"⟩ ⟨"SendHallModel", "sent", "(II)I"⟩) ∈ lw_all := lw_g (lw_at lw_ms 87 rfl) rfl
theorem qs88 : (Cond.selects "SendHallModel" ⟨"SendHallModel", "hands", "(I)Z"⟩ ⟨"SendHallModel", "hands", "(I)Z"⟩) ∈ lw_all := lw_g (lw_at lw_ms 88 rfl) rfl
theorem qs89 : (Cond.selects "SendHallModel" ⟨"SendHallModel", "lying", "(III)I"⟩ ⟨"SendHallModel", "lying", "(III)I"⟩) ∈ lw_all := lw_g (lw_at lw_ms 89 rfl) rfl
theorem qs90 : (Cond.selects "SendHallModel" ⟨"SendHallModel", "begun", "(I)I"⟩ ⟨"SendHallModel", "begun", "(I)I"⟩) ∈ lw_all := lw_g (lw_at lw_ms 90 rfl) rfl
theorem qs91 : (Cond.selects "SendHallModel" ⟨"SendHallModel", "areAll", "(I)Z"⟩ ⟨"SendHallModel", "areAll", "(I)Z"⟩) ∈ lw_all := lw_g (lw_at lw_ms 91 rfl) rfl
theorem qs92 : (Cond.selects "SendHallModel" ⟨"SendHallModel", "move", "(II)V"⟩ ⟨"SendHallModel", "move", "(II)V"⟩) ∈ lw_all := lw_g (lw_at lw_ms 92 rfl) rfl
theorem qs93 : (Cond.selects "SendHallModel" ⟨"SendHallModel", "lay", "(IZ)V"⟩ ⟨"SendHallModel", "lay", "(IZ)V"⟩) ∈ lw_all := lw_g (lw_at lw_ms 93 rfl) rfl
theorem qs94 : (Cond.selects "SendHallModel" ⟨"SendHallModel", "farOf", "(II)I"⟩ ⟨"SendHallModel", "farOf", "(II)I"⟩) ∈ lw_all := lw_g (lw_at lw_ms 94 rfl) rfl
theorem qs95 : (Cond.selects "SendHallModel" ⟨"SendHallModel", "goOn", "(I)V"⟩ ⟨"SendHallModel", "goOn", "(I)V"⟩) ∈ lw_all := lw_g (lw_at lw_ms 95 rfl) rfl
theorem qs96 : (Cond.selects "SendHallModel" ⟨"SendHallModel", "handOver", "(I)V"⟩ ⟨"SendHallModel", "handOver", "(I)V"⟩) ∈ lw_all := lw_g (lw_at lw_ms 96 rfl) rfl
theorem qs97 : (Cond.selects "SendHallModel" ⟨"SendHallModel", "upTo", "(II)V"⟩ ⟨"SendHallModel", "upTo", "(II)V"⟩) ∈ lw_all := lw_g (lw_at lw_ms 97 rfl) rfl
theorem qs98 : (Cond.selects "SendHallModel" ⟨"SendHallModel", "noteAny", "(II)V"⟩ ⟨"SendHallModel", "noteAny", "(II)V"⟩) ∈ lw_all := lw_g (lw_at lw_ms 98 rfl) rfl
theorem qs99 : (Cond.selects "SendHallModel" ⟨"SendHallModel", "has", "(IIII)V"⟩ ⟨"SendHallModel", "has", "(IIII)V"⟩) ∈ lw_all := lw_g (lw_at lw_ms 99 rfl) rfl
theorem qs100 : (Cond.selects "SendHallModel" ⟨"SendHallModel", "take", "(III)V"⟩ ⟨"SendHallModel", "take", "(III)V"⟩) ∈ lw_all := lw_g (lw_at lw_ms 100 rfl) rfl
theorem qs101 : (Cond.selects "SendHallModel" ⟨"SendHallModel", "takeAway", "(I)V"⟩ ⟨"SendHallModel", "takeAway", "(I)V"⟩) ∈ lw_all := lw_g (lw_at lw_ms 101 rfl) rfl
theorem qs102 : (Cond.selects "SendHallModel" ⟨"SendHallModel", "together", "(I)V"⟩ ⟨"SendHallModel", "together", "(I)V"⟩) ∈ lw_all := lw_g (lw_at lw_ms 102 rfl) rfl
theorem qs103 : (Cond.selects "SendHallModel" ⟨"SendHallModel", "showEnding", "()V"⟩ ⟨"SendHallModel", "showEnding", "()V"⟩) ∈ lw_all := lw_g (lw_at lw_ms 103 rfl) rfl
theorem qs104 : (Cond.selects "SendHallModel" ⟨"SendHallModel", "kindNow", "()I"⟩ ⟨"SendHallModel", "kindNow", "()I"⟩) ∈ lw_all := lw_g (lw_at lw_ms 104 rfl) rfl
theorem qs105 : (Cond.selects "SendHallModel" ⟨"SendHallModel", "isHand", "(I)Z"⟩ ⟨"SendHallModel", "isHand", "(I)Z"⟩) ∈ lw_all := lw_g (lw_at lw_ms 105 rfl) rfl
theorem qs106 : (Cond.selects "SendHallModel" ⟨"SendHallModel", "someLocks", "()Z"⟩ ⟨"SendHallModel", "someLocks", "()Z"⟩) ∈ lw_all := lw_g (lw_at lw_ms 106 rfl) rfl
theorem qs107 : (Cond.selects "SendHallModel" ⟨"SendHallModel", "refuse", "(I)Z"⟩ ⟨"SendHallModel", "refuse", "(I)Z"⟩) ∈ lw_all := lw_g (lw_at lw_ms 107 rfl) rfl
theorem qs108 : (Cond.selects "SendHallModel" ⟨"SendHallModel", "run", "(IJ)I"⟩ ⟨"SendHallModel", "run", "(IJ)I"⟩) ∈ lw_all := lw_g (lw_at lw_ms 108 rfl) rfl
theorem qs109 : (Cond.selects "SendHallModel" ⟨"SendHallModel", "waitsFor", "(I)I"⟩ ⟨"SendHallModel", "waitsFor", "(I)I"⟩) ∈ lw_all := lw_g (lw_at lw_ms 109 rfl) rfl
theorem qs110 : (Cond.selects "SendHallModel" ⟨"SendHallModel", "tellRing", "()V"⟩ ⟨"SendHallModel", "tellRing", "()V"⟩) ∈ lw_all := lw_g (lw_at lw_ms 110 rfl) rfl
theorem qs111 : (Cond.selects "SendHallModel" ⟨"SendHallModel", "hasPlay", "()Z"⟩ ⟨"SendHallModel", "hasPlay", "()Z"⟩) ∈ lw_all := lw_g (lw_at lw_ms 111 rfl) rfl
