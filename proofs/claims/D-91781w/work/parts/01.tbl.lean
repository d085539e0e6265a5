-- ===== PART A: goes FIRST, ahead of the names: the tables' words, and 'selects' of the private methods out of them =====
/-- a private method of a class that the tables say can be made, by its rows of tables_1 -/
def lw_okq (q : MethodName × Nat) : Prop := (q.1.cls ≠ "java/lang/invoke/MethodHandle" ∧ q.1.cls ≠ "java/lang/invoke/VarHandle") ∧ Cond.instantiable q.1.cls q.2 ∈ tables_1 ∧ Cond.privateMethod q.1 ∈ tables_1 ∧ Cond.instanceMethod q.1 ∈ tables_1
set_option maxRecDepth 100000
theorem lw_t1 {w : Cond} (h : w ∈ tables_1_1) : w ∈ tables_1 := List.mem_append_left _ h
theorem lw_t2 {w : Cond} (h : w ∈ tables_1_2) : w ∈ tables_1 := List.mem_append_right _ (List.mem_append_left _ h)
theorem lw_t3 {w : Cond} (h : w ∈ tables_1_3) : w ∈ tables_1 := List.mem_append_right _ (List.mem_append_right _ (List.mem_append_left _ h))
theorem lw_t4 {w : Cond} (h : w ∈ tables_1_4) : w ∈ tables_1 := List.mem_append_right _ (List.mem_append_right _ (List.mem_append_right _ (List.mem_append_left _ h)))
theorem lw_t5 {w : Cond} (h : w ∈ tables_1_5) : w ∈ tables_1 := List.mem_append_right _ (List.mem_append_right _ (List.mem_append_right _ (List.mem_append_right _ (List.mem_append_left _ h))))
theorem lw_t6 {w : Cond} (h : w ∈ tables_1_6) : w ∈ tables_1 := List.mem_append_right _ (List.mem_append_right _ (List.mem_append_right _ (List.mem_append_right _ (List.mem_append_right _ (List.mem_append_left _ h)))))
theorem lw_t7 {w : Cond} (h : w ∈ tables_1_7) : w ∈ tables_1 := List.mem_append_right _ (List.mem_append_right _ (List.mem_append_right _ (List.mem_append_right _ (List.mem_append_right _ (List.mem_append_right _ (List.mem_append_left _ h))))))
theorem lw_t8 {w : Cond} (h : w ∈ tables_1_8) : w ∈ tables_1 := List.mem_append_right _ (List.mem_append_right _ (List.mem_append_right _ (List.mem_append_right _ (List.mem_append_right _ (List.mem_append_right _ (List.mem_append_right _ (List.mem_append_left _ h)))))))
theorem lw_t9 {w : Cond} (h : w ∈ tables_1_9) : w ∈ tables_1 := List.mem_append_right _ (List.mem_append_right _ (List.mem_append_right _ (List.mem_append_right _ (List.mem_append_right _ (List.mem_append_right _ (List.mem_append_right _ (List.mem_append_right _ h)))))))
theorem lw_p0 : lw_okq (⟨"BrothFlasks", "refuse", "(I)I"⟩, 13) := ⟨⟨by decide +kernel, by decide +kernel⟩, lw_t1 (List.mem_of_getElem? (i := 34) rfl), lw_t2 (List.mem_of_getElem? (i := 50) rfl), lw_t2 (List.mem_of_getElem? (i := 51) rfl)⟩
theorem lw_p1 : lw_okq (⟨"BrothFlasks", "done", "(I)I"⟩, 13) := ⟨⟨by decide +kernel, by decide +kernel⟩, lw_t1 (List.mem_of_getElem? (i := 34) rfl), lw_t2 (List.mem_of_getElem? (i := 82) rfl), lw_t2 (List.mem_of_getElem? (i := 83) rfl)⟩
theorem lw_p2 : lw_okq (⟨"BrothFlasks", "isKind", "(I)Z"⟩, 13) := ⟨⟨by decide +kernel, by decide +kernel⟩, lw_t1 (List.mem_of_getElem? (i := 34) rfl), lw_t2 (List.mem_of_getElem? (i := 105) rfl), lw_t2 (List.mem_of_getElem? (i := 106) rfl)⟩
theorem lw_p3 : lw_okq (⟨"BrothFlasks", "isFlask", "(I)Z"⟩, 13) := ⟨⟨by decide +kernel, by decide +kernel⟩, lw_t1 (List.mem_of_getElem? (i := 34) rfl), lw_t3 (List.mem_of_getElem? (i := 56) rfl), lw_t3 (List.mem_of_getElem? (i := 57) rfl)⟩
theorem lw_p4 : lw_okq (⟨"BrothFlasks$Bench", "chance", "(LBrothFlasks$Flask;)I"⟩, 22) := ⟨⟨by decide +kernel, by decide +kernel⟩, lw_t1 (List.mem_of_getElem? (i := 42) rfl), lw_t3 (List.mem_of_getElem? (i := 100) rfl), lw_t3 (List.mem_of_getElem? (i := 101) rfl)⟩
theorem lw_p5 : lw_okq (⟨"BrothFlasks$Bench", "draw", "(I)I"⟩, 22) := ⟨⟨by decide +kernel, by decide +kernel⟩, lw_t1 (List.mem_of_getElem? (i := 42) rfl), lw_t3 (List.mem_of_getElem? (i := 107) rfl), lw_t3 (List.mem_of_getElem? (i := 108) rfl)⟩
theorem lw_p6 : lw_okq (⟨"BrothFlasks$Bench", "fall", "(LBrothFlasks$Flask;)V"⟩, 22) := ⟨⟨by decide +kernel, by decide +kernel⟩, lw_t1 (List.mem_of_getElem? (i := 42) rfl), lw_t3 (List.mem_of_getElem? (i := 114) rfl), lw_t3 (List.mem_of_getElem? (i := 115) rfl)⟩
theorem lw_p7 : lw_okq (⟨"BrothFlasks$Bench", "turn", "(LBrothFlasks$Flask;)V"⟩, 22) := ⟨⟨by decide +kernel, by decide +kernel⟩, lw_t1 (List.mem_of_getElem? (i := 42) rfl), lw_t3 (List.mem_of_getElem? (i := 135) rfl), lw_t3 (List.mem_of_getElem? (i := 136) rfl)⟩
theorem lw_p8 : lw_okq (⟨"BrothFlasks", "addLook", "(LBrothFlasks$Case;Z)I"⟩, 13) := ⟨⟨by decide +kernel, by decide +kernel⟩, lw_t1 (List.mem_of_getElem? (i := 34) rfl), lw_t3 (List.mem_of_getElem? (i := 161) rfl), lw_t3 (List.mem_of_getElem? (i := 162) rfl)⟩
theorem lw_p9 : lw_okq (⟨"BrothFlasks", "addTrial", "(LBrothFlasks$Case;)I"⟩, 13) := ⟨⟨by decide +kernel, by decide +kernel⟩, lw_t1 (List.mem_of_getElem? (i := 34) rfl), lw_t3 (List.mem_of_getElem? (i := 191) rfl), lw_t3 (List.mem_of_getElem? (i := 192) rfl)⟩
theorem lw_p10 : lw_okq (⟨"BrothFlasks", "isLook", "(I)Z"⟩, 13) := ⟨⟨by decide +kernel, by decide +kernel⟩, lw_t1 (List.mem_of_getElem? (i := 34) rfl), lw_t3 (List.mem_of_getElem? (i := 207) rfl), lw_t3 (List.mem_of_getElem? (i := 208) rfl)⟩
theorem lw_p11 : lw_okq (⟨"BrothFlasks", "isTrial", "(I)Z"⟩, 13) := ⟨⟨by decide +kernel, by decide +kernel⟩, lw_t1 (List.mem_of_getElem? (i := 34) rfl), lw_t3 (List.mem_of_getElem? (i := 212) rfl), lw_t3 (List.mem_of_getElem? (i := 213) rfl)⟩
theorem lw_p12 : lw_okq (⟨"BrothFlasks", "four", "(I)V"⟩, 13) := ⟨⟨by decide +kernel, by decide +kernel⟩, lw_t1 (List.mem_of_getElem? (i := 34) rfl), lw_t3 (List.mem_of_getElem? (i := 221) rfl), lw_t3 (List.mem_of_getElem? (i := 222) rfl)⟩
theorem lw_p13 : lw_okq (⟨"BrothFlasks$Reader", "next", "()V"⟩, 10) := ⟨⟨by decide +kernel, by decide +kernel⟩, lw_t1 (List.mem_of_getElem? (i := 173) rfl), lw_t4 (List.mem_of_getElem? (i := 0) rfl), lw_t4 (List.mem_of_getElem? (i := 1) rfl)⟩
theorem lw_p14 : lw_okq (⟨"BrothFlasks$Reader", "must", "(Z)V"⟩, 10) := ⟨⟨by decide +kernel, by decide +kernel⟩, lw_t1 (List.mem_of_getElem? (i := 173) rfl), lw_t4 (List.mem_of_getElem? (i := 10) rfl), lw_t4 (List.mem_of_getElem? (i := 11) rfl)⟩
theorem lw_p15 : lw_okq (⟨"java/lang/Throwable", "fillInStackTrace", "(I)Ljava/lang/Throwable;"⟩, 6) := ⟨⟨by decide +kernel, by decide +kernel⟩, lw_t4 (List.mem_of_getElem? (i := 48) rfl), lw_t4 (List.mem_of_getElem? (i := 46) rfl), lw_t4 (List.mem_of_getElem? (i := 47) rfl)⟩
def lw_privs_1 : List (MethodName × Nat) := [(⟨"BrothFlasks", "refuse", "(I)I"⟩, 13), (⟨"BrothFlasks", "done", "(I)I"⟩, 13), (⟨"BrothFlasks", "isKind", "(I)Z"⟩, 13), (⟨"BrothFlasks", "isFlask", "(I)Z"⟩, 13), (⟨"BrothFlasks$Bench", "chance", "(LBrothFlasks$Flask;)I"⟩, 22), (⟨"BrothFlasks$Bench", "draw", "(I)I"⟩, 22), (⟨"BrothFlasks$Bench", "fall", "(LBrothFlasks$Flask;)V"⟩, 22), (⟨"BrothFlasks$Bench", "turn", "(LBrothFlasks$Flask;)V"⟩, 22), (⟨"BrothFlasks", "addLook", "(LBrothFlasks$Case;Z)I"⟩, 13), (⟨"BrothFlasks", "addTrial", "(LBrothFlasks$Case;)I"⟩, 13), (⟨"BrothFlasks", "isLook", "(I)Z"⟩, 13), (⟨"BrothFlasks", "isTrial", "(I)Z"⟩, 13), (⟨"BrothFlasks", "four", "(I)V"⟩, 13), (⟨"BrothFlasks$Reader", "next", "()V"⟩, 10), (⟨"BrothFlasks$Reader", "must", "(Z)V"⟩, 10), (⟨"java/lang/Throwable", "fillInStackTrace", "(I)Ljava/lang/Throwable;"⟩, 6)]
theorem lw_r1 : ∀ q ∈ lw_privs_1, lw_okq q := List.forall_mem_cons.mpr ⟨lw_p0, List.forall_mem_cons.mpr ⟨lw_p1, List.forall_mem_cons.mpr ⟨lw_p2, List.forall_mem_cons.mpr ⟨lw_p3, List.forall_mem_cons.mpr ⟨lw_p4, List.forall_mem_cons.mpr ⟨lw_p5, List.forall_mem_cons.mpr ⟨lw_p6, List.forall_mem_cons.mpr ⟨lw_p7, List.forall_mem_cons.mpr ⟨lw_p8, List.forall_mem_cons.mpr ⟨lw_p9, List.forall_mem_cons.mpr ⟨lw_p10, List.forall_mem_cons.mpr ⟨lw_p11, List.forall_mem_cons.mpr ⟨lw_p12, List.forall_mem_cons.mpr ⟨lw_p13, List.forall_mem_cons.mpr ⟨lw_p14, List.forall_mem_cons.mpr ⟨lw_p15, fun _ h => absurd h List.not_mem_nil⟩⟩⟩⟩⟩⟩⟩⟩⟩⟩⟩⟩⟩⟩⟩⟩
theorem lw_p16 : lw_okq (⟨"BrothFlasks$Reader", "clause", "()LBrothFlasks$Clause;"⟩, 10) := ⟨⟨by decide +kernel, by decide +kernel⟩, lw_t1 (List.mem_of_getElem? (i := 173) rfl), lw_t4 (List.mem_of_getElem? (i := 77) rfl), lw_t4 (List.mem_of_getElem? (i := 78) rfl)⟩
theorem lw_p17 : lw_okq (⟨"BrothFlasks$Reader", "which", "([Ljava/lang/String;)I"⟩, 10) := ⟨⟨by decide +kernel, by decide +kernel⟩, lw_t1 (List.mem_of_getElem? (i := 173) rfl), lw_t4 (List.mem_of_getElem? (i := 81) rfl), lw_t4 (List.mem_of_getElem? (i := 82) rfl)⟩
theorem lw_p18 : lw_okq (⟨"BrothFlasks$Reader", "isWord", "(Ljava/lang/String;)Z"⟩, 10) := ⟨⟨by decide +kernel, by decide +kernel⟩, lw_t1 (List.mem_of_getElem? (i := 173) rfl), lw_t4 (List.mem_of_getElem? (i := 85) rfl), lw_t4 (List.mem_of_getElem? (i := 86) rfl)⟩
theorem lw_p19 : lw_okq (⟨"BrothFlasks$Reader", "sum", "()LBrothFlasks$Sum;"⟩, 10) := ⟨⟨by decide +kernel, by decide +kernel⟩, lw_t1 (List.mem_of_getElem? (i := 173) rfl), lw_t4 (List.mem_of_getElem? (i := 137) rfl), lw_t4 (List.mem_of_getElem? (i := 138) rfl)⟩
theorem lw_p20 : lw_okq (⟨"BrothFlasks$Reader", "term", "()LBrothFlasks$Sum;"⟩, 10) := ⟨⟨by decide +kernel, by decide +kernel⟩, lw_t1 (List.mem_of_getElem? (i := 173) rfl), lw_t4 (List.mem_of_getElem? (i := 141) rfl), lw_t4 (List.mem_of_getElem? (i := 142) rfl)⟩
theorem lw_p21 : lw_okq (⟨"BrothFlasks$Reader", "part", "()LBrothFlasks$Sum;"⟩, 10) := ⟨⟨by decide +kernel, by decide +kernel⟩, lw_t1 (List.mem_of_getElem? (i := 173) rfl), lw_t4 (List.mem_of_getElem? (i := 145) rfl), lw_t4 (List.mem_of_getElem? (i := 146) rfl)⟩
theorem lw_p22 : lw_okq (⟨"BrothFlasks$Reader", "open", "()V"⟩, 10) := ⟨⟨by decide +kernel, by decide +kernel⟩, lw_t1 (List.mem_of_getElem? (i := 173) rfl), lw_t4 (List.mem_of_getElem? (i := 150) rfl), lw_t4 (List.mem_of_getElem? (i := 151) rfl)⟩
theorem lw_p23 : lw_okq (⟨"BrothFlasks$Reader", "close", "(Ljava/lang/String;)V"⟩, 10) := ⟨⟨by decide +kernel, by decide +kernel⟩, lw_t1 (List.mem_of_getElem? (i := 173) rfl), lw_t4 (List.mem_of_getElem? (i := 155) rfl), lw_t4 (List.mem_of_getElem? (i := 156) rfl)⟩
theorem lw_p24 : lw_okq (⟨"BrothFlasks$Reader", "accept", "(Ljava/lang/String;)Z"⟩, 10) := ⟨⟨by decide +kernel, by decide +kernel⟩, lw_t1 (List.mem_of_getElem? (i := 173) rfl), lw_t4 (List.mem_of_getElem? (i := 159) rfl), lw_t4 (List.mem_of_getElem? (i := 160) rfl)⟩
theorem lw_p25 : lw_okq (⟨"BrothFlasks$Reader", "leaf", "()V"⟩, 10) := ⟨⟨by decide +kernel, by decide +kernel⟩, lw_t1 (List.mem_of_getElem? (i := 173) rfl), lw_t4 (List.mem_of_getElem? (i := 163) rfl), lw_t4 (List.mem_of_getElem? (i := 164) rfl)⟩
theorem lw_p26 : lw_okq (⟨"BrothFlasks$Reader", "number", "(I)I"⟩, 10) := ⟨⟨by decide +kernel, by decide +kernel⟩, lw_t1 (List.mem_of_getElem? (i := 173) rfl), lw_t4 (List.mem_of_getElem? (i := 170) rfl), lw_t4 (List.mem_of_getElem? (i := 171) rfl)⟩
theorem lw_p27 : lw_okq (⟨"BrothFlasks$Reader", "test", "()LBrothFlasks$Test;"⟩, 10) := ⟨⟨by decide +kernel, by decide +kernel⟩, lw_t1 (List.mem_of_getElem? (i := 173) rfl), lw_t4 (List.mem_of_getElem? (i := 216) rfl), lw_t4 (List.mem_of_getElem? (i := 217) rfl)⟩
theorem lw_p28 : lw_okq (⟨"BrothFlasks$Reader", "both", "()LBrothFlasks$Test;"⟩, 10) := ⟨⟨by decide +kernel, by decide +kernel⟩, lw_t1 (List.mem_of_getElem? (i := 173) rfl), lw_t4 (List.mem_of_getElem? (i := 220) rfl), lw_t4 (List.mem_of_getElem? (i := 221) rfl)⟩
theorem lw_p29 : lw_okq (⟨"BrothFlasks$Reader", "plain", "()LBrothFlasks$Test;"⟩, 10) := ⟨⟨by decide +kernel, by decide +kernel⟩, lw_t1 (List.mem_of_getElem? (i := 173) rfl), lw_t4 (List.mem_of_getElem? (i := 224) rfl), lw_t4 (List.mem_of_getElem? (i := 225) rfl)⟩
theorem lw_p30 : lw_okq (⟨"BrothFlasks$Reader", "add", "(LBrothFlasks$Test;)V"⟩, 10) := ⟨⟨by decide +kernel, by decide +kernel⟩, lw_t1 (List.mem_of_getElem? (i := 173) rfl), lw_t5 (List.mem_of_getElem? (i := 33) rfl), lw_t5 (List.mem_of_getElem? (i := 34) rfl)⟩
theorem lw_p31 : lw_okq (⟨"BrothFlasks$Reader", "row", "(ZI)LBrothFlasks$Test;"⟩, 10) := ⟨⟨by decide +kernel, by decide +kernel⟩, lw_t1 (List.mem_of_getElem? (i := 173) rfl), lw_t5 (List.mem_of_getElem? (i := 38) rfl), lw_t5 (List.mem_of_getElem? (i := 39) rfl)⟩
def lw_privs_2 : List (MethodName × Nat) := [(⟨"BrothFlasks$Reader", "clause", "()LBrothFlasks$Clause;"⟩, 10), (⟨"BrothFlasks$Reader", "which", "([Ljava/lang/String;)I"⟩, 10), (⟨"BrothFlasks$Reader", "isWord", "(Ljava/lang/String;)Z"⟩, 10), (⟨"BrothFlasks$Reader", "sum", "()LBrothFlasks$Sum;"⟩, 10), (⟨"BrothFlasks$Reader", "term", "()LBrothFlasks$Sum;"⟩, 10), (⟨"BrothFlasks$Reader", "part", "()LBrothFlasks$Sum;"⟩, 10), (⟨"BrothFlasks$Reader", "open", "()V"⟩, 10), (⟨"BrothFlasks$Reader", "close", "(Ljava/lang/String;)V"⟩, 10), (⟨"BrothFlasks$Reader", "accept", "(Ljava/lang/String;)Z"⟩, 10), (⟨"BrothFlasks$Reader", "leaf", "()V"⟩, 10), (⟨"BrothFlasks$Reader", "number", "(I)I"⟩, 10), (⟨"BrothFlasks$Reader", "test", "()LBrothFlasks$Test;"⟩, 10), (⟨"BrothFlasks$Reader", "both", "()LBrothFlasks$Test;"⟩, 10), (⟨"BrothFlasks$Reader", "plain", "()LBrothFlasks$Test;"⟩, 10), (⟨"BrothFlasks$Reader", "add", "(LBrothFlasks$Test;)V"⟩, 10), (⟨"BrothFlasks$Reader", "row", "(ZI)LBrothFlasks$Test;"⟩, 10)]
theorem lw_r2 : ∀ q ∈ lw_privs_2, lw_okq q := List.forall_mem_cons.mpr ⟨lw_p16, List.forall_mem_cons.mpr ⟨lw_p17, List.forall_mem_cons.mpr ⟨lw_p18, List.forall_mem_cons.mpr ⟨lw_p19, List.forall_mem_cons.mpr ⟨lw_p20, List.forall_mem_cons.mpr ⟨lw_p21, List.forall_mem_cons.mpr ⟨lw_p22, List.forall_mem_cons.mpr ⟨lw_p23, List.forall_mem_cons.mpr ⟨lw_p24, List.forall_mem_cons.mpr ⟨lw_p25, List.forall_mem_cons.mpr ⟨lw_p26, List.forall_mem_cons.mpr ⟨lw_p27, List.forall_mem_cons.mpr ⟨lw_p28, List.forall_mem_cons.mpr ⟨lw_p29, List.forall_mem_cons.mpr ⟨lw_p30, List.forall_mem_cons.mpr ⟨lw_p31, fun _ h => absurd h List.not_mem_nil⟩⟩⟩⟩⟩⟩⟩⟩⟩⟩⟩⟩⟩⟩⟩⟩
theorem lw_p32 : lw_okq (⟨"BrothFlasks", "isText", "(I)Z"⟩, 13) := ⟨⟨by decide +kernel, by decide +kernel⟩, lw_t1 (List.mem_of_getElem? (i := 34) rfl), lw_t5 (List.mem_of_getElem? (i := 98) rfl), lw_t5 (List.mem_of_getElem? (i := 99) rfl)⟩
theorem lw_p33 : lw_okq (⟨"BrothFlasks", "areTexts", "(I)Z"⟩, 13) := ⟨⟨by decide +kernel, by decide +kernel⟩, lw_t1 (List.mem_of_getElem? (i := 34) rfl), lw_t5 (List.mem_of_getElem? (i := 222) rfl), lw_t5 (List.mem_of_getElem? (i := 223) rfl)⟩
theorem lw_p34 : lw_okq (⟨"BrothFlasks", "partingBy", "(ILBrothFlasks$Case;)I"⟩, 13) := ⟨⟨by decide +kernel, by decide +kernel⟩, lw_t1 (List.mem_of_getElem? (i := 34) rfl), lw_t5 (List.mem_of_getElem? (i := 226) rfl), lw_t5 (List.mem_of_getElem? (i := 227) rfl)⟩
theorem lw_p35 : lw_okq (⟨"BrothFlasks", "isFairToAll", "(ILBrothFlasks$Case;)Z"⟩, 13) := ⟨⟨by decide +kernel, by decide +kernel⟩, lw_t1 (List.mem_of_getElem? (i := 34) rfl), lw_t5 (List.mem_of_getElem? (i := 237) rfl), lw_t5 (List.mem_of_getElem? (i := 238) rfl)⟩
theorem lw_p36 : lw_okq (⟨"BrothFlasks", "findPlain", "(I)V"⟩, 13) := ⟨⟨by decide +kernel, by decide +kernel⟩, lw_t1 (List.mem_of_getElem? (i := 34) rfl), lw_t6 (List.mem_of_getElem? (i := 5) rfl), lw_t6 (List.mem_of_getElem? (i := 6) rfl)⟩
theorem lw_p37 : lw_okq (⟨"BrothFlasks", "by", "(II)I"⟩, 13) := ⟨⟨by decide +kernel, by decide +kernel⟩, lw_t1 (List.mem_of_getElem? (i := 34) rfl), lw_t6 (List.mem_of_getElem? (i := 9) rfl), lw_t6 (List.mem_of_getElem? (i := 10) rfl)⟩
theorem lw_p38 : lw_okq (⟨"BrothFlasks", "fits", "(III)Z"⟩, 13) := ⟨⟨by decide +kernel, by decide +kernel⟩, lw_t1 (List.mem_of_getElem? (i := 34) rfl), lw_t6 (List.mem_of_getElem? (i := 46) rfl), lw_t6 (List.mem_of_getElem? (i := 47) rfl)⟩
theorem lw_p39 : lw_okq (⟨"BrothFlasks", "spoiltOf", "(LBrothFlasks$Case;)I"⟩, 13) := ⟨⟨by decide +kernel, by decide +kernel⟩, lw_t1 (List.mem_of_getElem? (i := 34) rfl), lw_t6 (List.mem_of_getElem? (i := 73) rfl), lw_t6 (List.mem_of_getElem? (i := 74) rfl)⟩
theorem lw_p40 : lw_okq (⟨"BrothFlasks", "isCommission", "(I)Z"⟩, 13) := ⟨⟨by decide +kernel, by decide +kernel⟩, lw_t1 (List.mem_of_getElem? (i := 34) rfl), lw_t6 (List.mem_of_getElem? (i := 96) rfl), lw_t6 (List.mem_of_getElem? (i := 97) rfl)⟩
theorem lw_p41 : lw_okq (⟨"BrothFlasks", "verdicts", "(ILBrothFlasks$Text;)J"⟩, 13) := ⟨⟨by decide +kernel, by decide +kernel⟩, lw_t1 (List.mem_of_getElem? (i := 34) rfl), lw_t6 (List.mem_of_getElem? (i := 100) rfl), lw_t6 (List.mem_of_getElem? (i := 101) rfl)⟩
theorem lw_p42 : lw_okq (⟨"BrothFlasks", "saysTurned", "(II)Z"⟩, 13) := ⟨⟨by decide +kernel, by decide +kernel⟩, lw_t1 (List.mem_of_getElem? (i := 34) rfl), lw_t6 (List.mem_of_getElem? (i := 109) rfl), lw_t6 (List.mem_of_getElem? (i := 110) rfl)⟩
theorem lw_p43 : lw_okq (⟨"BrothFlasksModel", "refuses", "(I)I"⟩, 30) := ⟨⟨by decide +kernel, by decide +kernel⟩, lw_t6 (List.mem_of_getElem? (i := 164) rfl), lw_t7 (List.mem_of_getElem? (i := 29) rfl), lw_t7 (List.mem_of_getElem? (i := 30) rfl)⟩
theorem lw_p44 : lw_okq (⟨"BrothFlasksModel", "good", "(I)I"⟩, 30) := ⟨⟨by decide +kernel, by decide +kernel⟩, lw_t6 (List.mem_of_getElem? (i := 164) rfl), lw_t7 (List.mem_of_getElem? (i := 33) rfl), lw_t7 (List.mem_of_getElem? (i := 34) rfl)⟩
theorem lw_p45 : lw_okq (⟨"BrothFlasksModel", "isKind", "(I)Z"⟩, 30) := ⟨⟨by decide +kernel, by decide +kernel⟩, lw_t6 (List.mem_of_getElem? (i := 164) rfl), lw_t7 (List.mem_of_getElem? (i := 57) rfl), lw_t7 (List.mem_of_getElem? (i := 58) rfl)⟩
theorem lw_p46 : lw_okq (⟨"BrothFlasksModel", "sets", "(III)V"⟩, 30) := ⟨⟨by decide +kernel, by decide +kernel⟩, lw_t6 (List.mem_of_getElem? (i := 164) rfl), lw_t7 (List.mem_of_getElem? (i := 70) rfl), lw_t7 (List.mem_of_getElem? (i := 71) rfl)⟩
theorem lw_p47 : lw_okq (⟨"BrothFlasksModel", "isFlask", "(I)Z"⟩, 30) := ⟨⟨by decide +kernel, by decide +kernel⟩, lw_t6 (List.mem_of_getElem? (i := 164) rfl), lw_t7 (List.mem_of_getElem? (i := 78) rfl), lw_t7 (List.mem_of_getElem? (i := 79) rfl)⟩
def lw_privs_3 : List (MethodName × Nat) := [(⟨"BrothFlasks", "isText", "(I)Z"⟩, 13), (⟨"BrothFlasks", "areTexts", "(I)Z"⟩, 13), (⟨"BrothFlasks", "partingBy", "(ILBrothFlasks$Case;)I"⟩, 13), (⟨"BrothFlasks", "isFairToAll", "(ILBrothFlasks$Case;)Z"⟩, 13), (⟨"BrothFlasks", "findPlain", "(I)V"⟩, 13), (⟨"BrothFlasks", "by", "(II)I"⟩, 13), (⟨"BrothFlasks", "fits", "(III)Z"⟩, 13), (⟨"BrothFlasks", "spoiltOf", "(LBrothFlasks$Case;)I"⟩, 13), (⟨"BrothFlasks", "isCommission", "(I)Z"⟩, 13), (⟨"BrothFlasks", "verdicts", "(ILBrothFlasks$Text;)J"⟩, 13), (⟨"BrothFlasks", "saysTurned", "(II)Z"⟩, 13), (⟨"BrothFlasksModel", "refuses", "(I)I"⟩, 30), (⟨"BrothFlasksModel", "good", "(I)I"⟩, 30), (⟨"BrothFlasksModel", "isKind", "(I)Z"⟩, 30), (⟨"BrothFlasksModel", "sets", "(III)V"⟩, 30), (⟨"BrothFlasksModel", "isFlask", "(I)Z"⟩, 30)]
theorem lw_r3 : ∀ q ∈ lw_privs_3, lw_okq q := List.forall_mem_cons.mpr ⟨lw_p32, List.forall_mem_cons.mpr ⟨lw_p33, List.forall_mem_cons.mpr ⟨lw_p34, List.forall_mem_cons.mpr ⟨lw_p35, List.forall_mem_cons.mpr ⟨lw_p36, List.forall_mem_cons.mpr ⟨lw_p37, List.forall_mem_cons.mpr ⟨lw_p38, List.forall_mem_cons.mpr ⟨lw_p39, List.forall_mem_cons.mpr ⟨lw_p40, List.forall_mem_cons.mpr ⟨lw_p41, List.forall_mem_cons.mpr ⟨lw_p42, List.forall_mem_cons.mpr ⟨lw_p43, List.forall_mem_cons.mpr ⟨lw_p44, List.forall_mem_cons.mpr ⟨lw_p45, List.forall_mem_cons.mpr ⟨lw_p46, List.forall_mem_cons.mpr ⟨lw_p47, fun _ h => absurd h List.not_mem_nil⟩⟩⟩⟩⟩⟩⟩⟩⟩⟩⟩⟩⟩⟩⟩⟩
theorem lw_p48 : lw_okq (⟨"BrothFlasksModel", "flaskOf", "(II)I"⟩, 30) := ⟨⟨by decide +kernel, by decide +kernel⟩, lw_t6 (List.mem_of_getElem? (i := 164) rfl), lw_t7 (List.mem_of_getElem? (i := 82) rfl), lw_t7 (List.mem_of_getElem? (i := 83) rfl)⟩
theorem lw_p49 : lw_okq (⟨"BrothFlasksModel", "kindOf", "(II)I"⟩, 30) := ⟨⟨by decide +kernel, by decide +kernel⟩, lw_t6 (List.mem_of_getElem? (i := 164) rfl), lw_t7 (List.mem_of_getElem? (i := 86) rfl), lw_t7 (List.mem_of_getElem? (i := 87) rfl)⟩
theorem lw_p50 : lw_okq (⟨"BrothFlasksModel", "falls", "(I)V"⟩, 30) := ⟨⟨by decide +kernel, by decide +kernel⟩, lw_t6 (List.mem_of_getElem? (i := 164) rfl), lw_t7 (List.mem_of_getElem? (i := 106) rfl), lw_t7 (List.mem_of_getElem? (i := 107) rfl)⟩
theorem lw_p51 : lw_okq (⟨"BrothFlasksModel", "draws", "(I)I"⟩, 30) := ⟨⟨by decide +kernel, by decide +kernel⟩, lw_t6 (List.mem_of_getElem? (i := 164) rfl), lw_t7 (List.mem_of_getElem? (i := 113) rfl), lw_t7 (List.mem_of_getElem? (i := 114) rfl)⟩
theorem lw_p52 : lw_okq (⟨"BrothFlasksModel", "turns", "(I)V"⟩, 30) := ⟨⟨by decide +kernel, by decide +kernel⟩, lw_t6 (List.mem_of_getElem? (i := 164) rfl), lw_t7 (List.mem_of_getElem? (i := 120) rfl), lw_t7 (List.mem_of_getElem? (i := 121) rfl)⟩
theorem lw_p53 : lw_okq (⟨"BrothFlasksModel", "takesFlask", "(I)V"⟩, 30) := ⟨⟨by decide +kernel, by decide +kernel⟩, lw_t6 (List.mem_of_getElem? (i := 164) rfl), lw_t7 (List.mem_of_getElem? (i := 128) rfl), lw_t7 (List.mem_of_getElem? (i := 129) rfl)⟩
theorem lw_p54 : lw_okq (⟨"BrothFlasksModel", "lookAt", "(I)I"⟩, 30) := ⟨⟨by decide +kernel, by decide +kernel⟩, lw_t6 (List.mem_of_getElem? (i := 164) rfl), lw_t7 (List.mem_of_getElem? (i := 139) rfl), lw_t7 (List.mem_of_getElem? (i := 140) rfl)⟩
theorem lw_p55 : lw_okq (⟨"BrothFlasksModel", "trialAt", "(I)I"⟩, 30) := ⟨⟨by decide +kernel, by decide +kernel⟩, lw_t6 (List.mem_of_getElem? (i := 164) rfl), lw_t7 (List.mem_of_getElem? (i := 147) rfl), lw_t7 (List.mem_of_getElem? (i := 148) rfl)⟩
theorem lw_p56 : lw_okq (⟨"BrothFlasksModel", "isLook", "(I)Z"⟩, 30) := ⟨⟨by decide +kernel, by decide +kernel⟩, lw_t6 (List.mem_of_getElem? (i := 164) rfl), lw_t7 (List.mem_of_getElem? (i := 162) rfl), lw_t7 (List.mem_of_getElem? (i := 163) rfl)⟩
theorem lw_p57 : lw_okq (⟨"BrothFlasksModel", "isTrial", "(I)Z"⟩, 30) := ⟨⟨by decide +kernel, by decide +kernel⟩, lw_t6 (List.mem_of_getElem? (i := 164) rfl), lw_t7 (List.mem_of_getElem? (i := 166) rfl), lw_t7 (List.mem_of_getElem? (i := 167) rfl)⟩
theorem lw_p58 : lw_okq (⟨"BrothFlasksModel", "reads", "()Z"⟩, 30) := ⟨⟨by decide +kernel, by decide +kernel⟩, lw_t6 (List.mem_of_getElem? (i := 164) rfl), lw_t7 (List.mem_of_getElem? (i := 182) rfl), lw_t7 (List.mem_of_getElem? (i := 183) rfl)⟩
theorem lw_p59 : lw_okq (⟨"BrothFlasksModel", "cuts", "(I)V"⟩, 30) := ⟨⟨by decide +kernel, by decide +kernel⟩, lw_t6 (List.mem_of_getElem? (i := 164) rfl), lw_t7 (List.mem_of_getElem? (i := 186) rfl), lw_t7 (List.mem_of_getElem? (i := 187) rfl)⟩
theorem lw_p60 : lw_okq (⟨"BrothFlasksModel", "wordOf", "(II)I"⟩, 30) := ⟨⟨by decide +kernel, by decide +kernel⟩, lw_t6 (List.mem_of_getElem? (i := 164) rfl), lw_t7 (List.mem_of_getElem? (i := 196) rfl), lw_t7 (List.mem_of_getElem? (i := 197) rfl)⟩
theorem lw_p61 : lw_okq (⟨"BrothFlasksModel", "readClause", "()V"⟩, 30) := ⟨⟨by decide +kernel, by decide +kernel⟩, lw_t6 (List.mem_of_getElem? (i := 164) rfl), lw_t7 (List.mem_of_getElem? (i := 200) rfl), lw_t7 (List.mem_of_getElem? (i := 201) rfl)⟩
theorem lw_p62 : lw_okq (⟨"BrothFlasksModel", "takes", "(I)Z"⟩, 30) := ⟨⟨by decide +kernel, by decide +kernel⟩, lw_t6 (List.mem_of_getElem? (i := 164) rfl), lw_t7 (List.mem_of_getElem? (i := 204) rfl), lw_t7 (List.mem_of_getElem? (i := 205) rfl)⟩
theorem lw_p63 : lw_okq (⟨"BrothFlasksModel", "fine", "()Z"⟩, 30) := ⟨⟨by decide +kernel, by decide +kernel⟩, lw_t6 (List.mem_of_getElem? (i := 164) rfl), lw_t7 (List.mem_of_getElem? (i := 208) rfl), lw_t7 (List.mem_of_getElem? (i := 209) rfl)⟩
def lw_privs_4 : List (MethodName × Nat) := [(⟨"BrothFlasksModel", "flaskOf", "(II)I"⟩, 30), (⟨"BrothFlasksModel", "kindOf", "(II)I"⟩, 30), (⟨"BrothFlasksModel", "falls", "(I)V"⟩, 30), (⟨"BrothFlasksModel", "draws", "(I)I"⟩, 30), (⟨"BrothFlasksModel", "turns", "(I)V"⟩, 30), (⟨"BrothFlasksModel", "takesFlask", "(I)V"⟩, 30), (⟨"BrothFlasksModel", "lookAt", "(I)I"⟩, 30), (⟨"BrothFlasksModel", "trialAt", "(I)I"⟩, 30), (⟨"BrothFlasksModel", "isLook", "(I)Z"⟩, 30), (⟨"BrothFlasksModel", "isTrial", "(I)Z"⟩, 30), (⟨"BrothFlasksModel", "reads", "()Z"⟩, 30), (⟨"BrothFlasksModel", "cuts", "(I)V"⟩, 30), (⟨"BrothFlasksModel", "wordOf", "(II)I"⟩, 30), (⟨"BrothFlasksModel", "readClause", "()V"⟩, 30), (⟨"BrothFlasksModel", "takes", "(I)Z"⟩, 30), (⟨"BrothFlasksModel", "fine", "()Z"⟩, 30)]
theorem lw_r4 : ∀ q ∈ lw_privs_4, lw_okq q := List.forall_mem_cons.mpr ⟨lw_p48, List.forall_mem_cons.mpr ⟨lw_p49, List.forall_mem_cons.mpr ⟨lw_p50, List.forall_mem_cons.mpr ⟨lw_p51, List.forall_mem_cons.mpr ⟨lw_p52, List.forall_mem_cons.mpr ⟨lw_p53, List.forall_mem_cons.mpr ⟨lw_p54, List.forall_mem_cons.mpr ⟨lw_p55, List.forall_mem_cons.mpr ⟨lw_p56, List.forall_mem_cons.mpr ⟨lw_p57, List.forall_mem_cons.mpr ⟨lw_p58, List.forall_mem_cons.mpr ⟨lw_p59, List.forall_mem_cons.mpr ⟨lw_p60, List.forall_mem_cons.mpr ⟨lw_p61, List.forall_mem_cons.mpr ⟨lw_p62, List.forall_mem_cons.mpr ⟨lw_p63, fun _ h => absurd h List.not_mem_nil⟩⟩⟩⟩⟩⟩⟩⟩⟩⟩⟩⟩⟩⟩⟩⟩
theorem lw_p64 : lw_okq (⟨"BrothFlasksModel", "readSum", "(I)V"⟩, 30) := ⟨⟨by decide +kernel, by decide +kernel⟩, lw_t6 (List.mem_of_getElem? (i := 164) rfl), lw_t7 (List.mem_of_getElem? (i := 212) rfl), lw_t7 (List.mem_of_getElem? (i := 213) rfl)⟩
theorem lw_p65 : lw_okq (⟨"BrothFlasksModel", "readTerm", "(I)V"⟩, 30) := ⟨⟨by decide +kernel, by decide +kernel⟩, lw_t6 (List.mem_of_getElem? (i := 164) rfl), lw_t7 (List.mem_of_getElem? (i := 216) rfl), lw_t7 (List.mem_of_getElem? (i := 217) rfl)⟩
theorem lw_p66 : lw_okq (⟨"BrothFlasksModel", "readPart", "(I)V"⟩, 30) := ⟨⟨by decide +kernel, by decide +kernel⟩, lw_t6 (List.mem_of_getElem? (i := 164) rfl), lw_t7 (List.mem_of_getElem? (i := 220) rfl), lw_t7 (List.mem_of_getElem? (i := 221) rfl)⟩
theorem lw_p67 : lw_okq (⟨"BrothFlasksModel", "faults", "()V"⟩, 30) := ⟨⟨by decide +kernel, by decide +kernel⟩, lw_t6 (List.mem_of_getElem? (i := 164) rfl), lw_t7 (List.mem_of_getElem? (i := 227) rfl), lw_t7 (List.mem_of_getElem? (i := 228) rfl)⟩
theorem lw_p68 : lw_okq (⟨"BrothFlasksModel", "must", "(I)V"⟩, 30) := ⟨⟨by decide +kernel, by decide +kernel⟩, lw_t6 (List.mem_of_getElem? (i := 164) rfl), lw_t7 (List.mem_of_getElem? (i := 231) rfl), lw_t7 (List.mem_of_getElem? (i := 232) rfl)⟩
theorem lw_p69 : lw_okq (⟨"BrothFlasksModel", "leaf", "()V"⟩, 30) := ⟨⟨by decide +kernel, by decide +kernel⟩, lw_t6 (List.mem_of_getElem? (i := 164) rfl), lw_t7 (List.mem_of_getElem? (i := 236) rfl), lw_t7 (List.mem_of_getElem? (i := 237) rfl)⟩
theorem lw_p70 : lw_okq (⟨"BrothFlasksModel", "readTest", "(I)V"⟩, 30) := ⟨⟨by decide +kernel, by decide +kernel⟩, lw_t6 (List.mem_of_getElem? (i := 164) rfl), lw_t8 (List.mem_of_getElem? (i := 0) rfl), lw_t8 (List.mem_of_getElem? (i := 1) rfl)⟩
theorem lw_p71 : lw_okq (⟨"BrothFlasksModel", "readBoth", "(I)V"⟩, 30) := ⟨⟨by decide +kernel, by decide +kernel⟩, lw_t6 (List.mem_of_getElem? (i := 164) rfl), lw_t8 (List.mem_of_getElem? (i := 4) rfl), lw_t8 (List.mem_of_getElem? (i := 5) rfl)⟩
theorem lw_p72 : lw_okq (⟨"BrothFlasksModel", "readPlain", "(I)V"⟩, 30) := ⟨⟨by decide +kernel, by decide +kernel⟩, lw_t6 (List.mem_of_getElem? (i := 164) rfl), lw_t8 (List.mem_of_getElem? (i := 8) rfl), lw_t8 (List.mem_of_getElem? (i := 9) rfl)⟩
theorem lw_p73 : lw_okq (⟨"BrothFlasksModel", "isText", "(I)Z"⟩, 30) := ⟨⟨by decide +kernel, by decide +kernel⟩, lw_t6 (List.mem_of_getElem? (i := 164) rfl), lw_t8 (List.mem_of_getElem? (i := 20) rfl), lw_t8 (List.mem_of_getElem? (i := 21) rfl)⟩
theorem lw_p74 : lw_okq (⟨"BrothFlasksModel", "oddsOfLook", "(II)I"⟩, 30) := ⟨⟨by decide +kernel, by decide +kernel⟩, lw_t6 (List.mem_of_getElem? (i := 164) rfl), lw_t8 (List.mem_of_getElem? (i := 24) rfl), lw_t8 (List.mem_of_getElem? (i := 25) rfl)⟩
theorem lw_p75 : lw_okq (⟨"BrothFlasksModel", "takesRow", "(I)V"⟩, 30) := ⟨⟨by decide +kernel, by decide +kernel⟩, lw_t6 (List.mem_of_getElem? (i := 164) rfl), lw_t8 (List.mem_of_getElem? (i := 28) rfl), lw_t8 (List.mem_of_getElem? (i := 29) rfl)⟩
theorem lw_p76 : lw_okq (⟨"BrothFlasksModel", "oddsOf", "(I)I"⟩, 30) := ⟨⟨by decide +kernel, by decide +kernel⟩, lw_t6 (List.mem_of_getElem? (i := 164) rfl), lw_t8 (List.mem_of_getElem? (i := 32) rfl), lw_t8 (List.mem_of_getElem? (i := 33) rfl)⟩
theorem lw_p77 : lw_okq (⟨"BrothFlasksModel", "asks", "(I)V"⟩, 30) := ⟨⟨by decide +kernel, by decide +kernel⟩, lw_t6 (List.mem_of_getElem? (i := 164) rfl), lw_t8 (List.mem_of_getElem? (i := 36) rfl), lw_t8 (List.mem_of_getElem? (i := 37) rfl)⟩
theorem lw_p78 : lw_okq (⟨"BrothFlasksModel", "codeAt", "(I)I"⟩, 30) := ⟨⟨by decide +kernel, by decide +kernel⟩, lw_t6 (List.mem_of_getElem? (i := 164) rfl), lw_t8 (List.mem_of_getElem? (i := 40) rfl), lw_t8 (List.mem_of_getElem? (i := 41) rfl)⟩
theorem lw_p79 : lw_okq (⟨"BrothFlasksModel", "sumOf", "(Z)J"⟩, 30) := ⟨⟨by decide +kernel, by decide +kernel⟩, lw_t6 (List.mem_of_getElem? (i := 164) rfl), lw_t8 (List.mem_of_getElem? (i := 44) rfl), lw_t8 (List.mem_of_getElem? (i := 45) rfl)⟩
def lw_privs_5 : List (MethodName × Nat) := [(⟨"BrothFlasksModel", "readSum", "(I)V"⟩, 30), (⟨"BrothFlasksModel", "readTerm", "(I)V"⟩, 30), (⟨"BrothFlasksModel", "readPart", "(I)V"⟩, 30), (⟨"BrothFlasksModel", "faults", "()V"⟩, 30), (⟨"BrothFlasksModel", "must", "(I)V"⟩, 30), (⟨"BrothFlasksModel", "leaf", "()V"⟩, 30), (⟨"BrothFlasksModel", "readTest", "(I)V"⟩, 30), (⟨"BrothFlasksModel", "readBoth", "(I)V"⟩, 30), (⟨"BrothFlasksModel", "readPlain", "(I)V"⟩, 30), (⟨"BrothFlasksModel", "isText", "(I)Z"⟩, 30), (⟨"BrothFlasksModel", "oddsOfLook", "(II)I"⟩, 30), (⟨"BrothFlasksModel", "takesRow", "(I)V"⟩, 30), (⟨"BrothFlasksModel", "oddsOf", "(I)I"⟩, 30), (⟨"BrothFlasksModel", "asks", "(I)V"⟩, 30), (⟨"BrothFlasksModel", "codeAt", "(I)I"⟩, 30), (⟨"BrothFlasksModel", "sumOf", "(Z)J"⟩, 30)]
theorem lw_r5 : ∀ q ∈ lw_privs_5, lw_okq q := List.forall_mem_cons.mpr ⟨lw_p64, List.forall_mem_cons.mpr ⟨lw_p65, List.forall_mem_cons.mpr ⟨lw_p66, List.forall_mem_cons.mpr ⟨lw_p67, List.forall_mem_cons.mpr ⟨lw_p68, List.forall_mem_cons.mpr ⟨lw_p69, List.forall_mem_cons.mpr ⟨lw_p70, List.forall_mem_cons.mpr ⟨lw_p71, List.forall_mem_cons.mpr ⟨lw_p72, List.forall_mem_cons.mpr ⟨lw_p73, List.forall_mem_cons.mpr ⟨lw_p74, List.forall_mem_cons.mpr ⟨lw_p75, List.forall_mem_cons.mpr ⟨lw_p76, List.forall_mem_cons.mpr ⟨lw_p77, List.forall_mem_cons.mpr ⟨lw_p78, List.forall_mem_cons.mpr ⟨lw_p79, fun _ h => absurd h List.not_mem_nil⟩⟩⟩⟩⟩⟩⟩⟩⟩⟩⟩⟩⟩⟩⟩⟩
theorem lw_p80 : lw_okq (⟨"BrothFlasksModel", "termOf", "(Z)J"⟩, 30) := ⟨⟨by decide +kernel, by decide +kernel⟩, lw_t6 (List.mem_of_getElem? (i := 164) rfl), lw_t8 (List.mem_of_getElem? (i := 48) rfl), lw_t8 (List.mem_of_getElem? (i := 49) rfl)⟩
theorem lw_p81 : lw_okq (⟨"BrothFlasksModel", "partOf", "(Z)J"⟩, 30) := ⟨⟨by decide +kernel, by decide +kernel⟩, lw_t6 (List.mem_of_getElem? (i := 164) rfl), lw_t8 (List.mem_of_getElem? (i := 52) rfl), lw_t8 (List.mem_of_getElem? (i := 53) rfl)⟩
theorem lw_p82 : lw_okq (⟨"BrothFlasksModel", "passes", "(I)Z"⟩, 30) := ⟨⟨by decide +kernel, by decide +kernel⟩, lw_t6 (List.mem_of_getElem? (i := 164) rfl), lw_t8 (List.mem_of_getElem? (i := 56) rfl), lw_t8 (List.mem_of_getElem? (i := 57) rfl)⟩
theorem lw_p83 : lw_okq (⟨"BrothFlasksModel", "bounded", "(JZ)J"⟩, 30) := ⟨⟨by decide +kernel, by decide +kernel⟩, lw_t6 (List.mem_of_getElem? (i := 164) rfl), lw_t8 (List.mem_of_getElem? (i := 60) rfl), lw_t8 (List.mem_of_getElem? (i := 61) rfl)⟩
theorem lw_p84 : lw_okq (⟨"BrothFlasksModel", "testOf", "(Z)Z"⟩, 30) := ⟨⟨by decide +kernel, by decide +kernel⟩, lw_t6 (List.mem_of_getElem? (i := 164) rfl), lw_t8 (List.mem_of_getElem? (i := 66) rfl), lw_t8 (List.mem_of_getElem? (i := 67) rfl)⟩
theorem lw_p85 : lw_okq (⟨"BrothFlasksModel", "bothOf", "(Z)Z"⟩, 30) := ⟨⟨by decide +kernel, by decide +kernel⟩, lw_t6 (List.mem_of_getElem? (i := 164) rfl), lw_t8 (List.mem_of_getElem? (i := 70) rfl), lw_t8 (List.mem_of_getElem? (i := 71) rfl)⟩
theorem lw_p86 : lw_okq (⟨"BrothFlasksModel", "plainOf", "(Z)Z"⟩, 30) := ⟨⟨by decide +kernel, by decide +kernel⟩, lw_t6 (List.mem_of_getElem? (i := 164) rfl), lw_t8 (List.mem_of_getElem? (i := 74) rfl), lw_t8 (List.mem_of_getElem? (i := 75) rfl)⟩
theorem lw_p87 : lw_okq (⟨"BrothFlasksModel", "positiveOf", "(Z)Z"⟩, 30) := ⟨⟨by decide +kernel, by decide +kernel⟩, lw_t6 (List.mem_of_getElem? (i := 164) rfl), lw_t8 (List.mem_of_getElem? (i := 78) rfl), lw_t8 (List.mem_of_getElem? (i := 79) rfl)⟩
theorem lw_p88 : lw_okq (⟨"BrothFlasksModel", "flagged", "(I)Z"⟩, 30) := ⟨⟨by decide +kernel, by decide +kernel⟩, lw_t6 (List.mem_of_getElem? (i := 164) rfl), lw_t8 (List.mem_of_getElem? (i := 82) rfl), lw_t8 (List.mem_of_getElem? (i := 83) rfl)⟩
theorem lw_p89 : lw_okq (⟨"BrothFlasksModel", "seenAt", "(I)I"⟩, 30) := ⟨⟨by decide +kernel, by decide +kernel⟩, lw_t6 (List.mem_of_getElem? (i := 164) rfl), lw_t8 (List.mem_of_getElem? (i := 89) rfl), lw_t8 (List.mem_of_getElem? (i := 90) rfl)⟩
theorem lw_p90 : lw_okq (⟨"BrothFlasksModel", "oddsOfTrial", "(II)I"⟩, 30) := ⟨⟨by decide +kernel, by decide +kernel⟩, lw_t6 (List.mem_of_getElem? (i := 164) rfl), lw_t8 (List.mem_of_getElem? (i := 93) rfl), lw_t8 (List.mem_of_getElem? (i := 94) rfl)⟩
theorem lw_p91 : lw_okq (⟨"BrothFlasksModel", "isFair", "(II)Z"⟩, 30) := ⟨⟨by decide +kernel, by decide +kernel⟩, lw_t6 (List.mem_of_getElem? (i := 164) rfl), lw_t8 (List.mem_of_getElem? (i := 101) rfl), lw_t8 (List.mem_of_getElem? (i := 102) rfl)⟩
theorem lw_p92 : lw_okq (⟨"BrothFlasksModel", "price", "(II)I"⟩, 30) := ⟨⟨by decide +kernel, by decide +kernel⟩, lw_t6 (List.mem_of_getElem? (i := 164) rfl), lw_t8 (List.mem_of_getElem? (i := 125) rfl), lw_t8 (List.mem_of_getElem? (i := 126) rfl)⟩
theorem lw_p93 : lw_okq (⟨"BrothFlasksModel", "areTexts", "(I)Z"⟩, 30) := ⟨⟨by decide +kernel, by decide +kernel⟩, lw_t6 (List.mem_of_getElem? (i := 164) rfl), lw_t8 (List.mem_of_getElem? (i := 142) rfl), lw_t8 (List.mem_of_getElem? (i := 143) rfl)⟩
theorem lw_p94 : lw_okq (⟨"BrothFlasksModel", "partingOf", "(II)I"⟩, 30) := ⟨⟨by decide +kernel, by decide +kernel⟩, lw_t6 (List.mem_of_getElem? (i := 164) rfl), lw_t8 (List.mem_of_getElem? (i := 146) rfl), lw_t8 (List.mem_of_getElem? (i := 147) rfl)⟩
theorem lw_p95 : lw_okq (⟨"BrothFlasksModel", "areFair", "(II)Z"⟩, 30) := ⟨⟨by decide +kernel, by decide +kernel⟩, lw_t6 (List.mem_of_getElem? (i := 164) rfl), lw_t8 (List.mem_of_getElem? (i := 154) rfl), lw_t8 (List.mem_of_getElem? (i := 155) rfl)⟩
def lw_privs_6 : List (MethodName × Nat) := [(⟨"BrothFlasksModel", "termOf", "(Z)J"⟩, 30), (⟨"BrothFlasksModel", "partOf", "(Z)J"⟩, 30), (⟨"BrothFlasksModel", "passes", "(I)Z"⟩, 30), (⟨"BrothFlasksModel", "bounded", "(JZ)J"⟩, 30), (⟨"BrothFlasksModel", "testOf", "(Z)Z"⟩, 30), (⟨"BrothFlasksModel", "bothOf", "(Z)Z"⟩, 30), (⟨"BrothFlasksModel", "plainOf", "(Z)Z"⟩, 30), (⟨"BrothFlasksModel", "positiveOf", "(Z)Z"⟩, 30), (⟨"BrothFlasksModel", "flagged", "(I)Z"⟩, 30), (⟨"BrothFlasksModel", "seenAt", "(I)I"⟩, 30), (⟨"BrothFlasksModel", "oddsOfTrial", "(II)I"⟩, 30), (⟨"BrothFlasksModel", "isFair", "(II)Z"⟩, 30), (⟨"BrothFlasksModel", "price", "(II)I"⟩, 30), (⟨"BrothFlasksModel", "areTexts", "(I)Z"⟩, 30), (⟨"BrothFlasksModel", "partingOf", "(II)I"⟩, 30), (⟨"BrothFlasksModel", "areFair", "(II)Z"⟩, 30)]
theorem lw_r6 : ∀ q ∈ lw_privs_6, lw_okq q := List.forall_mem_cons.mpr ⟨lw_p80, List.forall_mem_cons.mpr ⟨lw_p81, List.forall_mem_cons.mpr ⟨lw_p82, List.forall_mem_cons.mpr ⟨lw_p83, List.forall_mem_cons.mpr ⟨lw_p84, List.forall_mem_cons.mpr ⟨lw_p85, List.forall_mem_cons.mpr ⟨lw_p86, List.forall_mem_cons.mpr ⟨lw_p87, List.forall_mem_cons.mpr ⟨lw_p88, List.forall_mem_cons.mpr ⟨lw_p89, List.forall_mem_cons.mpr ⟨lw_p90, List.forall_mem_cons.mpr ⟨lw_p91, List.forall_mem_cons.mpr ⟨lw_p92, List.forall_mem_cons.mpr ⟨lw_p93, List.forall_mem_cons.mpr ⟨lw_p94, List.forall_mem_cons.mpr ⟨lw_p95, fun _ h => absurd h List.not_mem_nil⟩⟩⟩⟩⟩⟩⟩⟩⟩⟩⟩⟩⟩⟩⟩⟩
theorem lw_p96 : lw_okq (⟨"BrothFlasksModel", "tellingOf", "(I)I"⟩, 30) := ⟨⟨by decide +kernel, by decide +kernel⟩, lw_t6 (List.mem_of_getElem? (i := 164) rfl), lw_t8 (List.mem_of_getElem? (i := 162) rfl), lw_t8 (List.mem_of_getElem? (i := 163) rfl)⟩
theorem lw_p97 : lw_okq (⟨"BrothFlasksModel", "lays", "(I)V"⟩, 30) := ⟨⟨by decide +kernel, by decide +kernel⟩, lw_t6 (List.mem_of_getElem? (i := 164) rfl), lw_t8 (List.mem_of_getElem? (i := 166) rfl), lw_t8 (List.mem_of_getElem? (i := 167) rfl)⟩
theorem lw_p98 : lw_okq (⟨"BrothFlasksModel", "fits", "(III)Z"⟩, 30) := ⟨⟨by decide +kernel, by decide +kernel⟩, lw_t6 (List.mem_of_getElem? (i := 164) rfl), lw_t8 (List.mem_of_getElem? (i := 200) rfl), lw_t8 (List.mem_of_getElem? (i := 201) rfl)⟩
theorem lw_p99 : lw_okq (⟨"BrothFlasksModel", "suits", "(II)Z"⟩, 30) := ⟨⟨by decide +kernel, by decide +kernel⟩, lw_t6 (List.mem_of_getElem? (i := 164) rfl), lw_t8 (List.mem_of_getElem? (i := 204) rfl), lw_t8 (List.mem_of_getElem? (i := 205) rfl)⟩
theorem lw_p100 : lw_okq (⟨"BrothFlasksModel", "spoiltOf", "(I)I"⟩, 30) := ⟨⟨by decide +kernel, by decide +kernel⟩, lw_t6 (List.mem_of_getElem? (i := 164) rfl), lw_t8 (List.mem_of_getElem? (i := 224) rfl), lw_t8 (List.mem_of_getElem? (i := 225) rfl)⟩
theorem lw_p101 : lw_okq (⟨"BrothFlasksModel", "isCourt", "(I)Z"⟩, 30) := ⟨⟨by decide +kernel, by decide +kernel⟩, lw_t6 (List.mem_of_getElem? (i := 164) rfl), lw_t9 (List.mem_of_getElem? (i := 3) rfl), lw_t9 (List.mem_of_getElem? (i := 4) rfl)⟩
theorem lw_p102 : lw_okq (⟨"BrothFlasksModel", "turnedOf", "(II)J"⟩, 30) := ⟨⟨by decide +kernel, by decide +kernel⟩, lw_t6 (List.mem_of_getElem? (i := 164) rfl), lw_t9 (List.mem_of_getElem? (i := 7) rfl), lw_t9 (List.mem_of_getElem? (i := 8) rfl)⟩
theorem lw_p103 : lw_okq (⟨"BrothFlasksModel", "hundreds", "(I)J"⟩, 30) := ⟨⟨by decide +kernel, by decide +kernel⟩, lw_t6 (List.mem_of_getElem? (i := 164) rfl), lw_t9 (List.mem_of_getElem? (i := 11) rfl), lw_t9 (List.mem_of_getElem? (i := 12) rfl)⟩
def lw_privs_7 : List (MethodName × Nat) := [(⟨"BrothFlasksModel", "tellingOf", "(I)I"⟩, 30), (⟨"BrothFlasksModel", "lays", "(I)V"⟩, 30), (⟨"BrothFlasksModel", "fits", "(III)Z"⟩, 30), (⟨"BrothFlasksModel", "suits", "(II)Z"⟩, 30), (⟨"BrothFlasksModel", "spoiltOf", "(I)I"⟩, 30), (⟨"BrothFlasksModel", "isCourt", "(I)Z"⟩, 30), (⟨"BrothFlasksModel", "turnedOf", "(II)J"⟩, 30), (⟨"BrothFlasksModel", "hundreds", "(I)J"⟩, 30)]
theorem lw_r7 : ∀ q ∈ lw_privs_7, lw_okq q := List.forall_mem_cons.mpr ⟨lw_p96, List.forall_mem_cons.mpr ⟨lw_p97, List.forall_mem_cons.mpr ⟨lw_p98, List.forall_mem_cons.mpr ⟨lw_p99, List.forall_mem_cons.mpr ⟨lw_p100, List.forall_mem_cons.mpr ⟨lw_p101, List.forall_mem_cons.mpr ⟨lw_p102, List.forall_mem_cons.mpr ⟨lw_p103, fun _ h => absurd h List.not_mem_nil⟩⟩⟩⟩⟩⟩⟩⟩
def lw_privs : List (MethodName × Nat) := lw_privs_1 ++ (lw_privs_2 ++ (lw_privs_3 ++ (lw_privs_4 ++ (lw_privs_5 ++ (lw_privs_6 ++ (lw_privs_7))))))
def lw_tbl : List Cond := k2_sels lw_privs ++ tables_1
theorem lw_privs_ok : ∀ q ∈ lw_privs, lw_okq q := by
  show ∀ q ∈ lw_privs_1 ++ (lw_privs_2 ++ (lw_privs_3 ++ (lw_privs_4 ++ (lw_privs_5 ++ (lw_privs_6 ++ (lw_privs_7)))))), lw_okq q
  exact List.forall_mem_append.mpr ⟨lw_r1, List.forall_mem_append.mpr ⟨lw_r2, List.forall_mem_append.mpr ⟨lw_r3, List.forall_mem_append.mpr ⟨lw_r4, List.forall_mem_append.mpr ⟨lw_r5, List.forall_mem_append.mpr ⟨lw_r6, lw_r7⟩⟩⟩⟩⟩⟩
-- ===== ONE list of words for every method: the tables' words that hold all through a run =====
def lw_all : List Cond := lw_tbl.filter goodWord
/-- a word of the tables by its place: claim/WORDS.tsv -/
theorem lw_w {w : Cond} (i : Nat) (h : lw_tbl[i]? = some w) (g : goodWord w = true) : w ∈ lw_all := List.mem_filter.mpr ⟨List.mem_of_getElem? h, g⟩
theorem lw_all_tbl {w : Cond} (h : w ∈ lw_all) : w ∈ lw_tbl := (List.mem_filter.mp h).1
theorem lw_self : GoodIn lw_all lw_all := fun w h => ⟨h, good_of_word (List.mem_filter.mp h).2⟩
/-- a class's field words, by their places -/
theorem lw_in (ws : List Cond) (ps : List Nat) (hp : ws = ps.filterMap (fun i => lw_tbl[i]?)) (hg : ws.all goodWord = true) : ∀ w ∈ ws, w ∈ lw_all := by
  intro w h
  have h1 := List.all_eq_true.mp hg w h
  rw [hp] at h
  obtain ⟨i, -, hi⟩ := List.mem_filterMap.mp h
  exact lw_w i hi h1
/-- the words of a contract for the method y with code b, L locals, answer r -/
abbrev ws_ (y : MethodName) (b : ByteArray) (L : Nat) (r : Option FieldType) : List Cond := Cond.code y b L r :: lw_all
theorem lw_meth {y : MethodName} {b : ByteArray} {L : Nat} {r : Option FieldType} (h : Cond.code y b L r ∈ lw_all) : GoodIn lw_all (ws_ y b L r) := by
  intro w hw
  rcases List.mem_cons.mp hw with e | e
  · rw [e]
    exact lw_self _ h
  · exact lw_self _ e
theorem lw_app {a c : List Cond} (ha : ∀ w ∈ a, w ∈ lw_all) (hc : GoodIn lw_all c) : GoodIn lw_all (a ++ c) := by
  intro w hw
  rcases List.mem_append.mp hw with e | e
  · exact lw_self w (ha w e)
  · exact hc w e
/-- what a call through an object asks: cwV n hts (lw_V ..) -/
theorem lw_V {own : String} {idx : Nat} {C : String} {y : MethodName} {b : ByteArray} {L : Nat} {r : Option FieldType} (h1 : Cond.methodLink own idx y ∈ lw_all) (h2 : Cond.instanceMethod y ∈ lw_all) (h3 : Cond.selects C y y ∈ lw_all) (h4 : Cond.initialized C ∈ lw_all) (h5 : Cond.code y b L r ∈ lw_all) : GoodIn lw_all (wsV own idx C y (ws_ y b L r)) := by
  refine lw_app ?_ (lw_meth h5)
  intro w hw
  simp only [List.mem_cons, List.not_mem_nil, or_false] at hw
  rcases hw with e | e | e | e
  · rw [e]; exact h1
  · rw [e]; exact h2
  · rw [e]; exact h3
  · rw [e]; exact h4
/-- what a static call asks: va_cwS n hts (lw_S ..) -/
theorem lw_S {own : String} {idx : Nat} {y : MethodName} {b : ByteArray} {L : Nat} {r : Option FieldType} (h1 : Cond.methodLink own idx y ∈ lw_all) (h2 : Cond.static y ∈ lw_all) (h3 : Cond.initialized y.cls ∈ lw_all) (h4 : Cond.code y b L r ∈ lw_all) : GoodIn lw_all (va_wsS own idx y (ws_ y b L r)) := by
  refine lw_app ?_ (lw_meth h4)
  intro w hw
  simp only [List.mem_cons, List.not_mem_nil, or_false] at hw
  rcases hw with e | e | e
  · rw [e]; exact h1
  · rw [e]; exact h2
  · rw [e]; exact h3
/-- the words of a contract for a method WITH HANDLERS (hh: its table) -/
abbrev wsW_ (y : MethodName) (b : ByteArray) (L : Nat) (r : Option FieldType) (hh : List (Nat × Nat × Nat × Nat)) : List Cond := Cond.codeWith y b L r hh :: lw_all
theorem lw_methW {y : MethodName} {b : ByteArray} {L : Nat} {r : Option FieldType} {hh : List (Nat × Nat × Nat × Nat)} (h : Cond.codeWith y b L r hh ∈ lw_all) : GoodIn lw_all (wsW_ y b L r hh) := by
  intro w hw
  rcases List.mem_cons.mp hw with e | e
  · rw [e]
    exact lw_self _ h
  · exact lw_self _ e
/-- any list of words by their places (lw_in), good -/
theorem lw_good {ws : List Cond} (h : ∀ w ∈ ws, w ∈ lw_all) : GoodIn lw_all ws := fun w hw => lw_self w (h w hw)
/-- what a call of a method with handlers asks: vx_cwVW n hts (lw_VW ..), vx_cwSW n hts (lw_SW ..) -/
theorem lw_VW {own : String} {idx : Nat} {C : String} {y : MethodName} {b : ByteArray} {L : Nat} {r : Option FieldType} {hh : List (Nat × Nat × Nat × Nat)} (h1 : Cond.methodLink own idx y ∈ lw_all) (h2 : Cond.instanceMethod y ∈ lw_all) (h3 : Cond.selects C y y ∈ lw_all) (h4 : Cond.initialized C ∈ lw_all) (h5 : Cond.codeWith y b L r hh ∈ lw_all) : GoodIn lw_all (wsV own idx C y (wsW_ y b L r hh)) := by
  refine lw_app ?_ (lw_methW h5)
  intro w hw
  simp only [List.mem_cons, List.not_mem_nil, or_false] at hw
  rcases hw with e | e | e | e
  · rw [e]; exact h1
  · rw [e]; exact h2
  · rw [e]; exact h3
  · rw [e]; exact h4
theorem lw_SW {own : String} {idx : Nat} {y : MethodName} {b : ByteArray} {L : Nat} {r : Option FieldType} {hh : List (Nat × Nat × Nat × Nat)} (h1 : Cond.methodLink own idx y ∈ lw_all) (h2 : Cond.static y ∈ lw_all) (h3 : Cond.initialized y.cls ∈ lw_all) (h4 : Cond.codeWith y b L r hh ∈ lw_all) : GoodIn lw_all (va_wsS own idx y (wsW_ y b L r hh)) := by
  refine lw_app ?_ (lw_methW h4)
  intro w hw
  simp only [List.mem_cons, List.not_mem_nil, or_false] at hw
  rcases hw with e | e | e
  · rw [e]; exact h1
  · rw [e]; exact h2
  · rw [e]; exact h3
/-- a word by its place in its run of the tables -/
theorem lw_at {r : List Cond} (hr : ∀ w ∈ r, w ∈ lw_tbl) {w : Cond} (i : Nat) (h : r[i]? = some w) : w ∈ lw_tbl := hr w (List.mem_of_getElem? h)
theorem lw_g {w : Cond} (h : w ∈ lw_tbl) (g : goodWord w = true) : w ∈ lw_all := List.mem_filter.mpr ⟨h, g⟩
theorem lw_ms : ∀ w ∈ k2_sels lw_privs, w ∈ lw_tbl := fun w h => show w ∈ k2_sels lw_privs ++ tables_1 from List.mem_append_left _ h
theorem lw_m1 : ∀ w ∈ tables_1_1, w ∈ lw_tbl := fun w h => show w ∈ k2_sels lw_privs ++ tables_1 from List.mem_append_right (k2_sels lw_privs) (show w ∈ tables_1 from List.mem_append_left _ h)
theorem lw_m2 : ∀ w ∈ tables_1_2, w ∈ lw_tbl := fun w h => show w ∈ k2_sels lw_privs ++ tables_1 from List.mem_append_right (k2_sels lw_privs) (show w ∈ tables_1 from List.mem_append_right _ (List.mem_append_left _ h))
theorem lw_m3 : ∀ w ∈ tables_1_3, w ∈ lw_tbl := fun w h => show w ∈ k2_sels lw_privs ++ tables_1 from List.mem_append_right (k2_sels lw_privs) (show w ∈ tables_1 from List.mem_append_right _ (List.mem_append_right _ (List.mem_append_left _ h)))
theorem lw_m4 : ∀ w ∈ tables_1_4, w ∈ lw_tbl := fun w h => show w ∈ k2_sels lw_privs ++ tables_1 from List.mem_append_right (k2_sels lw_privs) (show w ∈ tables_1 from List.mem_append_right _ (List.mem_append_right _ (List.mem_append_right _ (List.mem_append_left _ h))))
theorem lw_m5 : ∀ w ∈ tables_1_5, w ∈ lw_tbl := fun w h => show w ∈ k2_sels lw_privs ++ tables_1 from List.mem_append_right (k2_sels lw_privs) (show w ∈ tables_1 from List.mem_append_right _ (List.mem_append_right _ (List.mem_append_right _ (List.mem_append_right _ (List.mem_append_left _ h)))))
theorem lw_m6 : ∀ w ∈ tables_1_6, w ∈ lw_tbl := fun w h => show w ∈ k2_sels lw_privs ++ tables_1 from List.mem_append_right (k2_sels lw_privs) (show w ∈ tables_1 from List.mem_append_right _ (List.mem_append_right _ (List.mem_append_right _ (List.mem_append_right _ (List.mem_append_right _ (List.mem_append_left _ h))))))
theorem lw_m7 : ∀ w ∈ tables_1_7, w ∈ lw_tbl := fun w h => show w ∈ k2_sels lw_privs ++ tables_1 from List.mem_append_right (k2_sels lw_privs) (show w ∈ tables_1 from List.mem_append_right _ (List.mem_append_right _ (List.mem_append_right _ (List.mem_append_right _ (List.mem_append_right _ (List.mem_append_right _ (List.mem_append_left _ h)))))))
theorem lw_m8 : ∀ w ∈ tables_1_8, w ∈ lw_tbl := fun w h => show w ∈ k2_sels lw_privs ++ tables_1 from List.mem_append_right (k2_sels lw_privs) (show w ∈ tables_1 from List.mem_append_right _ (List.mem_append_right _ (List.mem_append_right _ (List.mem_append_right _ (List.mem_append_right _ (List.mem_append_right _ (List.mem_append_right _ (List.mem_append_left _ h))))))))
theorem lw_m9 : ∀ w ∈ tables_1_9, w ∈ lw_tbl := fun w h => show w ∈ k2_sels lw_privs ++ tables_1 from List.mem_append_right (k2_sels lw_privs) (show w ∈ tables_1 from List.mem_append_right _ (List.mem_append_right _ (List.mem_append_right _ (List.mem_append_right _ (List.mem_append_right _ (List.mem_append_right _ (List.mem_append_right _ (List.mem_append_right _ h))))))))
theorem qs0 : (Cond.selects "BrothFlasks" ⟨"BrothFlasks", "refuse", "(I)I"⟩ ⟨"BrothFlasks", "refuse", "(I)I"⟩) ∈ lw_all := lw_g (lw_at lw_ms 0 rfl) rfl
theorem qs1 : (Cond.selects "BrothFlasks" ⟨"BrothFlasks", "done", "(I)I"⟩ ⟨"BrothFlasks", "done", "(I)I"⟩) ∈ lw_all := lw_g (lw_at lw_ms 1 rfl) rfl
theorem qs2 : (Cond.selects "BrothFlasks" ⟨"BrothFlasks", "isKind", "(I)Z"⟩ ⟨"BrothFlasks", "isKind", "(I)Z"⟩) ∈ lw_all := lw_g (lw_at lw_ms 2 rfl) rfl
theorem qs3 : (Cond.selects "BrothFlasks" ⟨"BrothFlasks", "isFlask", "(I)Z"⟩ ⟨"BrothFlasks", "isFlask", "(I)Z"⟩) ∈ lw_all := lw_g (lw_at lw_ms 3 rfl) rfl
theorem qs4 : (Cond.selects "BrothFlasks$Bench" ⟨"BrothFlasks$Bench", "chance", "(LBrothFlasks$Flask;)I"⟩ ⟨"BrothFlasks$Bench", "chance", "(LBrothFlasks$Flask;)I"⟩) ∈ lw_all := lw_g (lw_at lw_ms 4 rfl) rfl
theorem qs5 : (Cond.selects "BrothFlasks$Bench" ⟨"BrothFlasks$Bench", "draw", "(I)I"⟩ ⟨"BrothFlasks$Bench", "draw", "(I)I"⟩) ∈ lw_all := lw_g (lw_at lw_ms 5 rfl) rfl
theorem qs6 : (Cond.selects "BrothFlasks$Bench" ⟨"BrothFlasks$Bench", "fall", "(LBrothFlasks$Flask;)V"⟩ ⟨"BrothFlasks$Bench", "fall", "(LBrothFlasks$Flask;)V"⟩) ∈ lw_all := lw_g (lw_at lw_ms 6 rfl) rfl
theorem qs7 : (Cond.selects "BrothFlasks$Bench" ⟨"BrothFlasks$Bench", "turn", "(LBrothFlasks$Flask;)V"⟩ ⟨"BrothFlasks$Bench", "turn", "(LBrothFlasks$Flask;)V"⟩) ∈ lw_all := lw_g (lw_at lw_ms 7 rfl) rfl
theorem qs8 : (Cond.selects "BrothFlasks" ⟨"BrothFlasks", "addLook", "(LBrothFlasks$Case;Z)I"⟩ ⟨"BrothFlasks", "addLook", "(LBrothFlasks$Case;Z)I"⟩) ∈ lw_all := lw_g (lw_at lw_ms 8 rfl) rfl
theorem qs9 : (Cond.selects "BrothFlasks" ⟨"BrothFlasks", "addTrial", "(LBrothFlasks$Case;)I"⟩ ⟨"BrothFlasks", "addTrial", "(LBrothFlasks$Case;)I"⟩) ∈ lw_all := lw_g (lw_at lw_ms 9 rfl) rfl
theorem qs10 : (Cond.selects "BrothFlasks" ⟨"BrothFlasks", "isLook", "(I)Z"⟩ ⟨"BrothFlasks", "isLook", "(I)Z"⟩) ∈ lw_all := lw_g (lw_at lw_ms 10 rfl) rfl
theorem qs11 : (Cond.selects "BrothFlasks" ⟨"BrothFlasks", "isTrial", "(I)Z"⟩ ⟨"BrothFlasks", "isTrial", "(I)Z"⟩) ∈ lw_all := lw_g (lw_at lw_ms 11 rfl) rfl
theorem qs12 : (Cond.selects "BrothFlasks" ⟨"BrothFlasks", "four", "(I)V"⟩ ⟨"BrothFlasks", "four", "(I)V"⟩) ∈ lw_all := lw_g (lw_at lw_ms 12 rfl) rfl
theorem qs13 : (Cond.selects "BrothFlasks$Reader" ⟨"BrothFlasks$Reader", "next", "()V"⟩ ⟨"BrothFlasks$Reader", "next", "()V"⟩) ∈ lw_all := lw_g (lw_at lw_ms 13 rfl) rfl
theorem qs14 : (Cond.selects "BrothFlasks$Reader" ⟨"BrothFlasks$Reader", "must", "(Z)V"⟩ ⟨"BrothFlasks$Reader", "must", "(Z)V"⟩) ∈ lw_all := lw_g (lw_at lw_ms 14 rfl) rfl
theorem qs15 : (Cond.selects "java/lang/Throwable" ⟨"java/lang/Throwable", "fillInStackTrace", "(I)Ljava/lang/Throwable;"⟩ ⟨"java/lang/Throwable", "fillInStackTrace", "(I)Ljava/lang/Throwable;"⟩) ∈ lw_all := lw_g (lw_at lw_ms 15 rfl) rfl
theorem qs16 : (Cond.selects "BrothFlasks$Reader" ⟨"BrothFlasks$Reader", "clause", "()LBrothFlasks$Clause;"⟩ ⟨"BrothFlasks$Reader", "clause", "()LBrothFlasks$Clause;"⟩) ∈ lw_all := lw_g (lw_at lw_ms 16 rfl) rfl
theorem qs17 : (Cond.selects "BrothFlasks$Reader" ⟨"BrothFlasks$Reader", "which", "([Ljava/lang/String;)I"⟩ ⟨"BrothFlasks$Reader", "which", "([Ljava/lang/String;)I"⟩) ∈ lw_all := lw_g (lw_at lw_ms 17 rfl) rfl
theorem qs18 : (Cond.selects "BrothFlasks$Reader" ⟨"BrothFlasks$Reader", "isWord", "(Ljava/lang/String;)Z"⟩ ⟨"BrothFlasks$Reader", "isWord", "(Ljava/lang/String;)Z"⟩) ∈ lw_all := lw_g (lw_at lw_ms 18 rfl) rfl
theorem qs19 : (Cond.selects "BrothFlasks$Reader" ⟨"BrothFlasks$Reader", "sum", "()LBrothFlasks$Sum;"⟩ ⟨"BrothFlasks$Reader", "sum", "()LBrothFlasks$Sum;"⟩) ∈ lw_all := lw_g (lw_at lw_ms 19 rfl) rfl
theorem qs20 : (Cond.selects "BrothFlasks$Reader" ⟨"BrothFlasks$Reader", "term", "()LBrothFlasks$Sum;"⟩ ⟨"BrothFlasks$Reader", "term", "()LBrothFlasks$Sum;"⟩) ∈ lw_all := lw_g (lw_at lw_ms 20 rfl) rfl
theorem qs21 : (Cond.selects "BrothFlasks$Reader" ⟨"BrothFlasks$Reader", "part", "()LBrothFlasks$Sum;"⟩ ⟨"BrothFlasks$Reader", "part", "()LBrothFlasks$Sum;"⟩) ∈ lw_all := lw_g (lw_at lw_ms 21 rfl) rfl
theorem qs22 : (Cond.selects "BrothFlasks$Reader" ⟨"BrothFlasks$Reader", "open", "()V"⟩ ⟨"BrothFlasks$Reader", "open", "()V"⟩) ∈ lw_all := lw_g (lw_at lw_ms 22 rfl) rfl
theorem qs23 : (Cond.selects "BrothFlasks$Reader" ⟨"BrothFlasks$Reader", "close", "(Ljava/lang/String;)V"⟩ ⟨"BrothFlasks$Reader", "close", "(Ljava/lang/String;)V"⟩) ∈ lw_all := lw_g (lw_at lw_ms 23 rfl) rfl
theorem qs24 : (Cond.selects "BrothFlasks$Reader" ⟨"BrothFlasks$Reader", "accept", "(Ljava/lang/String;)Z"⟩ ⟨"BrothFlasks$Reader", "accept", "(Ljava/lang/String;)Z"⟩) ∈ lw_all := lw_g (lw_at lw_ms 24 rfl) rfl
theorem qs25 : (Cond.selects "BrothFlasks$Reader" ⟨"BrothFlasks$Reader", "leaf", "()V"⟩ ⟨"BrothFlasks$Reader", "leaf", "()V"⟩) ∈ lw_all := lw_g (lw_at lw_ms 25 rfl) rfl
theorem qs26 : (Cond.selects "BrothFlasks$Reader" ⟨"BrothFlasks$Reader", "number", "(I)I"⟩ ⟨"BrothFlasks$Reader", "number", "(I)I"⟩) ∈ lw_all := lw_g (lw_at lw_ms 26 rfl) rfl
theorem qs27 : (Cond.selects "BrothFlasks$Reader" ⟨"BrothFlasks$Reader", "test", "()LBrothFlasks$Test;"⟩ ⟨"BrothFlasks$Reader", "test", "()LBrothFlasks$Test;"⟩) ∈ lw_all := lw_g (lw_at lw_ms 27 rfl) rfl
theorem qs28 : (Cond.selects "BrothFlasks$Reader" ⟨"BrothFlasks$Reader", "both", "()LBrothFlasks$Test;"⟩ ⟨"BrothFlasks$Reader", "both", "()LBrothFlasks$Test;"⟩) ∈ lw_all := lw_g (lw_at lw_ms 28 rfl) rfl
theorem qs29 : (Cond.selects "BrothFlasks$Reader" ⟨"BrothFlasks$Reader", "plain", "()LBrothFlasks$Test;"⟩ ⟨"BrothFlasks$Reader", "plain", "()LBrothFlasks$Test;"⟩) ∈ lw_all := lw_g (lw_at lw_ms 29 rfl) rfl
theorem qs30 : (Cond.selects "BrothFlasks$Reader" ⟨"BrothFlasks$Reader", "add", "(LBrothFlasks$Test;)V"⟩ ⟨"BrothFlasks$Reader", "add", "(LBrothFlasks$Test;)V"⟩) ∈ lw_all := lw_g (lw_at lw_ms 30 rfl) rfl
theorem qs31 : (Cond.selects "BrothFlasks$Reader" ⟨"BrothFlasks$Reader", "row", "(ZI)LBrothFlasks$Test;"⟩ ⟨"BrothFlasks$Reader", "row", "(ZI)LBrothFlasks$Test;"⟩) ∈ lw_all := lw_g (lw_at lw_ms 31 rfl) rfl
theorem qs32 : (Cond.selects "BrothFlasks" ⟨"BrothFlasks", "isText", "(I)Z"⟩ ⟨"BrothFlasks", "isText", "(I)Z"⟩) ∈ lw_all := lw_g (lw_at lw_ms 32 rfl) rfl
theorem qs33 : (Cond.selects "BrothFlasks" ⟨"BrothFlasks", "areTexts", "(I)Z"⟩ ⟨"BrothFlasks", "areTexts", "(I)Z"⟩) ∈ lw_all := lw_g (lw_at lw_ms 33 rfl) rfl
theorem qs34 : (Cond.selects "BrothFlasks" ⟨"BrothFlasks", "partingBy", "(ILBrothFlasks$Case;)I"⟩ ⟨"BrothFlasks", "partingBy", "(ILBrothFlasks$Case;)I"⟩) ∈ lw_all := lw_g (lw_at lw_ms 34 rfl) rfl
theorem qs35 : (Cond.selects "BrothFlasks" ⟨"BrothFlasks", "isFairToAll", "(ILBrothFlasks$Case;)Z"⟩ ⟨"BrothFlasks", "isFairToAll", "(ILBrothFlasks$Case;)Z"⟩) ∈ lw_all := lw_g (lw_at lw_ms 35 rfl) rfl
theorem qs36 : (Cond.selects "BrothFlasks" ⟨"BrothFlasks", "findPlain", "(I)V"⟩ ⟨"BrothFlasks", "findPlain", "(I)V"⟩) ∈ lw_all := lw_g (lw_at lw_ms 36 rfl) rfl
theorem qs37 : (Cond.selects "BrothFlasks" ⟨"BrothFlasks", "by", "(II)I"⟩ ⟨"BrothFlasks", "by", "(II)I"⟩) ∈ lw_all := lw_g (lw_at lw_ms 37 rfl) rfl
theorem qs38 : (Cond.selects "BrothFlasks" ⟨"BrothFlasks", "fits", "(III)Z"⟩ ⟨"BrothFlasks", "fits", "(III)Z"⟩) ∈ lw_all := lw_g (lw_at lw_ms 38 rfl) rfl
theorem qs39 : (Cond.selects "BrothFlasks" ⟨"BrothFlasks", "spoiltOf", "(LBrothFlasks$Case;)I"⟩ ⟨"BrothFlasks", "spoiltOf", "(LBrothFlasks$Case;)I"⟩) ∈ lw_all := lw_g (lw_at lw_ms 39 rfl) rfl
theorem qs40 : (Cond.selects "BrothFlasks" ⟨"BrothFlasks", "isCommission", "(I)Z"⟩ ⟨"BrothFlasks", "isCommission", "(I)Z"⟩) ∈ lw_all := lw_g (lw_at lw_ms 40 rfl) rfl
theorem qs41 : (Cond.selects "BrothFlasks" ⟨"BrothFlasks", "verdicts", "(ILBrothFlasks$Text;)J"⟩ ⟨"BrothFlasks", "verdicts", "(ILBrothFlasks$Text;)J"⟩) ∈ lw_all := lw_g (lw_at lw_ms 41 rfl) rfl
theorem qs42 : (Cond.selects "BrothFlasks" ⟨"BrothFlasks", "saysTurned", "(II)Z"⟩ ⟨"BrothFlasks", "saysTurned", "(II)Z"⟩) ∈ lw_all := lw_g (lw_at lw_ms 42 rfl) rfl
theorem qs43 : (Cond.selects "BrothFlasksModel" ⟨"BrothFlasksModel", "refuses", "(I)I"⟩ ⟨"BrothFlasksModel", "refuses", "(I)I"⟩) ∈ lw_all := lw_g (lw_at lw_ms 43 rfl) rfl
theorem qs44 : (Cond.selects "BrothFlasksModel" ⟨"BrothFlasksModel", "good", "(I)I"⟩ ⟨"BrothFlasksModel", "good", "(I)I"⟩) ∈ lw_all := lw_g (lw_at lw_ms 44 rfl) rfl
theorem qs45 : (Cond.selects "BrothFlasksModel" ⟨"BrothFlasksModel", "isKind", "(I)Z"⟩ ⟨"BrothFlasksModel", "isKind", "(I)Z"⟩) ∈ lw_all := lw_g (lw_at lw_ms 45 rfl) rfl
theorem qs46 : (Cond.selects "BrothFlasksModel" ⟨"BrothFlasksModel", "sets", "(III)V"⟩ ⟨"BrothFlasksModel", "sets", "(III)V"⟩) ∈ lw_all := lw_g (lw_at lw_ms 46 rfl) rfl
theorem qs47 : (Cond.selects "BrothFlasksModel" ⟨"BrothFlasksModel", "isFlask", "(I)Z"⟩ ⟨"BrothFlasksModel", "isFlask", "(I)Z"⟩) ∈ lw_all := lw_g (lw_at lw_ms 47 rfl) rfl
theorem qs48 : (Cond.selects "BrothFlasksModel" ⟨"BrothFlasksModel", "flaskOf", "(II)I"⟩ ⟨"BrothFlasksModel", "flaskOf", "(II)I"⟩) ∈ lw_all := lw_g (lw_at lw_ms 48 rfl) rfl
theorem qs49 : (Cond.selects "BrothFlasksModel" ⟨"BrothFlasksModel", "kindOf", "(II)I"⟩ ⟨"BrothFlasksModel", "kindOf", "(II)I"⟩) ∈ lw_all := lw_g (lw_at lw_ms 49 rfl) rfl
theorem qs50 : (Cond.selects "BrothFlasksModel" ⟨"BrothFlasksModel", "falls", "(I)V"⟩ ⟨"BrothFlasksModel", "falls", "(I)V"⟩) ∈ lw_all := lw_g (lw_at lw_ms 50 rfl) rfl
theorem qs51 : (Cond.selects "BrothFlasksModel" ⟨"BrothFlasksModel", "draws", "(I)I"⟩ ⟨"BrothFlasksModel", "draws", "(I)I"⟩) ∈ lw_all := lw_g (lw_at lw_ms 51 rfl) rfl
theorem qs52 : (Cond.selects "BrothFlasksModel" ⟨"BrothFlasksModel", "turns", "(I)V"⟩ ⟨"BrothFlasksModel", "turns", "(I)V"⟩) ∈ lw_all := lw_g (lw_at lw_ms 52 rfl) rfl
theorem qs53 : (Cond.selects "BrothFlasksModel" ⟨"BrothFlasksModel", "takesFlask", "(I)V"⟩ ⟨"BrothFlasksModel", "takesFlask", "(I)V"⟩) ∈ lw_all := lw_g (lw_at lw_ms 53 rfl) rfl
theorem qs54 : (Cond.selects "BrothFlasksModel" ⟨"BrothFlasksModel", "lookAt", "(I)I"⟩ ⟨"BrothFlasksModel", "lookAt", "(I)I"⟩) ∈ lw_all := lw_g (lw_at lw_ms 54 rfl) rfl
theorem qs55 : (Cond.selects "BrothFlasksModel" ⟨"BrothFlasksModel", "trialAt", "(I)I"⟩ ⟨"BrothFlasksModel", "trialAt", "(I)I"⟩) ∈ lw_all := lw_g (lw_at lw_ms 55 rfl) rfl
theorem qs56 : (Cond.selects "BrothFlasksModel" ⟨"BrothFlasksModel", "isLook", "(I)Z"⟩ ⟨"BrothFlasksModel", "isLook", "(I)Z"⟩) ∈ lw_all := lw_g (lw_at lw_ms 56 rfl) rfl
theorem qs57 : (Cond.selects "BrothFlasksModel" ⟨"BrothFlasksModel", "isTrial", "(I)Z"⟩ ⟨"BrothFlasksModel", "isTrial", "(I)Z"⟩) ∈ lw_all := lw_g (lw_at lw_ms 57 rfl) rfl
theorem qs58 : (Cond.selects "BrothFlasksModel" ⟨"BrothFlasksModel", "reads", "()Z"⟩ ⟨"BrothFlasksModel", "reads", "()Z"⟩) ∈ lw_all := lw_g (lw_at lw_ms 58 rfl) rfl
theorem qs59 : (Cond.selects "BrothFlasksModel" ⟨"BrothFlasksModel", "cuts", "(I)V"⟩ ⟨"BrothFlasksModel", "cuts", "(I)V"⟩) ∈ lw_all := lw_g (lw_at lw_ms 59 rfl) rfl
theorem qs60 : (Cond.selects "BrothFlasksModel" ⟨"BrothFlasksModel", "wordOf", "(II)I"⟩ ⟨"BrothFlasksModel", "wordOf", "(II)I"⟩) ∈ lw_all := lw_g (lw_at lw_ms 60 rfl) rfl
theorem qs61 : (Cond.selects "BrothFlasksModel" ⟨"BrothFlasksModel", "readClause", "()V"⟩ ⟨"BrothFlasksModel", "readClause", "()V"⟩) ∈ lw_all := lw_g (lw_at lw_ms 61 rfl) rfl
theorem qs62 : (Cond.selects "BrothFlasksModel" ⟨"BrothFlasksModel", "takes", "(I)Z"⟩ ⟨"BrothFlasksModel", "takes", "(I)Z"⟩) ∈ lw_all := lw_g (lw_at lw_ms 62 rfl) rfl
theorem qs63 : (Cond.selects "BrothFlasksModel" ⟨"BrothFlasksModel", "fine", "()Z"⟩ ⟨"BrothFlasksModel", "fine", "()Z"⟩) ∈ lw_all := lw_g (lw_at lw_ms 63 rfl) rfl
theorem qs64 : (Cond.selects "BrothFlasksModel" ⟨"BrothFlasksModel", "readSum", "(I)V"⟩ ⟨"BrothFlasksModel", "readSum", "(I)V"⟩) ∈ lw_all := lw_g (lw_at lw_ms 64 rfl) rfl
theorem qs65 : (Cond.selects "BrothFlasksModel" ⟨"BrothFlasksModel", "readTerm", "(I)V"⟩ ⟨"BrothFlasksModel", "readTerm", "(I)V"⟩) ∈ lw_all := lw_g (lw_at lw_ms 65 rfl) rfl
theorem qs66 : (Cond.selects "BrothFlasksModel" ⟨"BrothFlasksModel", "readPart", "(I)V"⟩ ⟨"BrothFlasksModel", "readPart", "(I)V"⟩) ∈ lw_all := lw_g (lw_at lw_ms 66 rfl) rfl
theorem qs67 : (Cond.selects "BrothFlasksModel" ⟨"BrothFlasksModel", "faults", "()V"⟩ ⟨"BrothFlasksModel", "faults", "()V"⟩) ∈ lw_all := lw_g (lw_at lw_ms 67 rfl) rfl
theorem qs68 : (Cond.selects "BrothFlasksModel" ⟨"BrothFlasksModel", "must", "(I)V"⟩ ⟨"BrothFlasksModel", "must", "(I)V"⟩) ∈ lw_all := lw_g (lw_at lw_ms 68 rfl) rfl
theorem qs69 : (Cond.selects "BrothFlasksModel" ⟨"BrothFlasksModel", "leaf", "()V"⟩ ⟨"BrothFlasksModel", "leaf", "()V"⟩) ∈ lw_all := lw_g (lw_at lw_ms 69 rfl) rfl
theorem qs70 : (Cond.selects "BrothFlasksModel" ⟨"BrothFlasksModel", "readTest", "(I)V"⟩ ⟨"BrothFlasksModel", "readTest", "(I)V"⟩) ∈ lw_all := lw_g (lw_at lw_ms 70 rfl) rfl
theorem qs71 : (Cond.selects "BrothFlasksModel" ⟨"BrothFlasksModel", "readBoth", "(I)V"⟩ ⟨"BrothFlasksModel", "readBoth", "(I)V"⟩) ∈ lw_all := lw_g (lw_at lw_ms 71 rfl) rfl
theorem qs72 : (Cond.selects "BrothFlasksModel" ⟨"BrothFlasksModel", "readPlain", "(I)V"⟩ ⟨"BrothFlasksModel", "readPlain", "(I)V"⟩) ∈ lw_all := lw_g (lw_at lw_ms 72 rfl) rfl
theorem qs73 : (Cond.selects "BrothFlasksModel" ⟨"BrothFlasksModel", "isText", "(I)Z"⟩ ⟨"BrothFlasksModel", "isText", "(I)Z"⟩) ∈ lw_all := lw_g (lw_at lw_ms 73 rfl) rfl
theorem qs74 : (Cond.selects "BrothFlasksModel" ⟨"BrothFlasksModel", "oddsOfLook", "(II)I"⟩ ⟨"BrothFlasksModel", "oddsOfLook", "(II)I"⟩) ∈ lw_all := lw_g (lw_at lw_ms 74 rfl) rfl
theorem qs75 : (Cond.selects "BrothFlasksModel" ⟨"BrothFlasksModel", "takesRow", "(I)V"⟩ ⟨"BrothFlasksModel", "takesRow", "(I)V"⟩) ∈ lw_all := lw_g (lw_at lw_ms 75 rfl) rfl
theorem qs76 : (Cond.selects "BrothFlasksModel" ⟨"BrothFlasksModel", "oddsOf", "(I)I"⟩ ⟨"BrothFlasksModel", "oddsOf", "(I)I"⟩) ∈ lw_all := lw_g (lw_at lw_ms 76 rfl) rfl
theorem qs77 : (Cond.selects "BrothFlasksModel" ⟨"BrothFlasksModel", "asks", "(I)V"⟩ ⟨"BrothFlasksModel", "asks", "(I)V"⟩) ∈ lw_all := lw_g (lw_at lw_ms 77 rfl) rfl
theorem qs78 : (Cond.selects "BrothFlasksModel" ⟨"BrothFlasksModel", "codeAt", "(I)I"⟩ ⟨"BrothFlasksModel", "codeAt", "(I)I"⟩) ∈ lw_all := lw_g (lw_at lw_ms 78 rfl) rfl
theorem qs79 : (Cond.selects "BrothFlasksModel" ⟨"BrothFlasksModel", "sumOf", "(Z)J"⟩ ⟨"BrothFlasksModel", "sumOf", "(Z)J"⟩) ∈ lw_all := lw_g (lw_at lw_ms 79 rfl) rfl
theorem qs80 : (Cond.selects "BrothFlasksModel" ⟨"BrothFlasksModel", "termOf", "(Z)J"⟩ ⟨"BrothFlasksModel", "termOf", "(Z)J"⟩) ∈ lw_all := lw_g (lw_at lw_ms 80 rfl) rfl
theorem qs81 : (Cond.selects "BrothFlasksModel" ⟨"BrothFlasksModel", "partOf", "(Z)J"⟩ ⟨"BrothFlasksModel", "partOf", "(Z)J"⟩) ∈ lw_all := lw_g (lw_at lw_ms 81 rfl) rfl
theorem qs82 : (Cond.selects "BrothFlasksModel" ⟨"BrothFlasksModel", "passes", "(I)Z"⟩ ⟨"BrothFlasksModel", "passes", "(I)Z"⟩) ∈ lw_all := lw_g (lw_at lw_ms 82 rfl) rfl
theorem qs83 : (Cond.selects "BrothFlasksModel" ⟨"BrothFlasksModel", "bounded", "(JZ)J"⟩ ⟨"BrothFlasksModel", "bounded", "(JZ)J"⟩) ∈ lw_all := lw_g (lw_at lw_ms 83 rfl) rfl
theorem qs84 : (Cond.selects "BrothFlasksModel" ⟨"BrothFlasksModel", "testOf", "(Z)Z"⟩ ⟨"BrothFlasksModel", "testOf", "(Z)Z"⟩) ∈ lw_all := lw_g (lw_at lw_ms 84 rfl) rfl
theorem qs85 : (Cond.selects "BrothFlasksModel" ⟨"BrothFlasksModel", "bothOf", "(Z)Z"⟩ ⟨"BrothFlasksModel", "bothOf", "(Z)Z"⟩) ∈ lw_all := lw_g (lw_at lw_ms 85 rfl) rfl
theorem qs86 : (Cond.selects "BrothFlasksModel" ⟨"BrothFlasksModel", "plainOf", "(Z)Z"⟩ ⟨"BrothFlasksModel", "plainOf", "(Z)Z"⟩) ∈ lw_all := lw_g (lw_at lw_ms 86 rfl) rfl
theorem qs87 : (Cond.selects "BrothFlasksModel" ⟨"BrothFlasksModel", "positiveOf", "(Z)Z"⟩ ⟨"BrothFlasksModel", "positiveOf", "(Z)Z"⟩) ∈ lw_all := lw_g (lw_at lw_ms 87 rfl) rfl
theorem qs88 : (Cond.selects "BrothFlasksModel" ⟨"BrothFlasksModel", "flagged", "(I)Z"⟩ ⟨"BrothFlasksModel", "flagged", "(I)Z"⟩) ∈ lw_all := lw_g (lw_at lw_ms 88 rfl) rfl
theorem qs89 : (Cond.selects "BrothFlasksModel" ⟨"BrothFlasksModel", "seenAt", "(I)I"⟩ ⟨"BrothFlasksModel", "seenAt", "(I)I"⟩) ∈ lw_all := lw_g (lw_at lw_ms 89 rfl) rfl
theorem qs90 : (Cond.selects "BrothFlasksModel" ⟨"BrothFlasksModel", "oddsOfTrial", "(II)I"⟩ ⟨"BrothFlasksModel", "oddsOfTrial", "(II)I"⟩) ∈ lw_all := lw_g (lw_at lw_ms 90 rfl) rfl
theorem qs91 : (Cond.selects "BrothFlasksModel" ⟨"BrothFlasksModel", "isFair", "(II)Z"⟩ ⟨"BrothFlasksModel", "isFair", "(II)Z"⟩) ∈ lw_all := lw_g (lw_at lw_ms 91 rfl) rfl
theorem qs92 : (Cond.selects "BrothFlasksModel" ⟨"BrothFlasksModel", "price", "(II)I"⟩ ⟨"BrothFlasksModel", "price", "(II)I"⟩) ∈ lw_all := lw_g (lw_at lw_ms 92 rfl) rfl
theorem qs93 : (Cond.selects "BrothFlasksModel" ⟨"BrothFlasksModel", "areTexts", "(I)Z"⟩ ⟨"BrothFlasksModel", "areTexts", "(I)Z"⟩) ∈ lw_all := lw_g (lw_at lw_ms 93 rfl) rfl
theorem qs94 : (Cond.selects "BrothFlasksModel" ⟨"BrothFlasksModel", "partingOf", "(II)I"⟩ ⟨"BrothFlasksModel", "partingOf", "(II)I"⟩) ∈ lw_all := lw_g (lw_at lw_ms 94 rfl) rfl
theorem qs95 : (Cond.selects "BrothFlasksModel" ⟨"BrothFlasksModel", "areFair", "(II)Z"⟩ ⟨"BrothFlasksModel", "areFair", "(II)Z"⟩) ∈ lw_all := lw_g (lw_at lw_ms 95 rfl) rfl
theorem qs96 : (Cond.selects "BrothFlasksModel" ⟨"BrothFlasksModel", "tellingOf", "(I)I"⟩ ⟨"BrothFlasksModel", "tellingOf", "(I)I"⟩) ∈ lw_all := lw_g (lw_at lw_ms 96 rfl) rfl
theorem qs97 : (Cond.selects "BrothFlasksModel" ⟨"BrothFlasksModel", "lays", "(I)V"⟩ ⟨"BrothFlasksModel", "lays", "(I)V"⟩) ∈ lw_all := lw_g (lw_at lw_ms 97 rfl) rfl
theorem qs98 : (Cond.selects "BrothFlasksModel" ⟨"BrothFlasksModel", "fits", "(III)Z"⟩ ⟨"BrothFlasksModel", "fits", "(III)Z"⟩) ∈ lw_all := lw_g (lw_at lw_ms 98 rfl) rfl
theorem qs99 : (Cond.selects "BrothFlasksModel" ⟨"BrothFlasksModel", "suits", "(II)Z"⟩ ⟨"BrothFlasksModel", "suits", "(II)Z"⟩) ∈ lw_all := lw_g (lw_at lw_ms 99 rfl) rfl
theorem qs100 : (Cond.selects "BrothFlasksModel" ⟨"BrothFlasksModel", "spoiltOf", "(I)I"⟩ ⟨"BrothFlasksModel", "spoiltOf", "(I)I"⟩) ∈ lw_all := lw_g (lw_at lw_ms 100 rfl) rfl
theorem qs101 : (Cond.selects "BrothFlasksModel" ⟨"BrothFlasksModel", "isCourt", "(I)Z"⟩ ⟨"BrothFlasksModel", "isCourt", "(I)Z"⟩) ∈ lw_all := lw_g (lw_at lw_ms 101 rfl) rfl
theorem qs102 : (Cond.selects "BrothFlasksModel" ⟨"BrothFlasksModel", "turnedOf", "(II)J"⟩ ⟨"BrothFlasksModel", "turnedOf", "(II)J"⟩) ∈ lw_all := lw_g (lw_at lw_ms 102 rfl) rfl
theorem qs103 : (Cond.selects "BrothFlasksModel" ⟨"BrothFlasksModel", "hundreds", "(I)J"⟩ ⟨"BrothFlasksModel", "hundreds", "(I)J"⟩) ∈ lw_all := lw_g (lw_at lw_ms 103 rfl) rfl
