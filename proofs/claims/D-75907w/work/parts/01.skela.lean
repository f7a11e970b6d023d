-- ===== PART A: goes FIRST, ahead of the names: the tables' words, and 'selects' of the private methods out of them =====
/-- a private method of a class that the tables say can be made, by its rows of tables_1 -/
def lw_okq (q : MethodName × Nat) : Prop := (q.1.cls ≠ "java/lang/invoke/MethodHandle" ∧ q.1.cls ≠ "java/lang/invoke/VarHandle") ∧ Cond.instantiable q.1.cls q.2 ∈ tables_1 ∧ Cond.privateMethod q.1 ∈ tables_1 ∧ Cond.instanceMethod q.1 ∈ tables_1
set_option maxRecDepth 100000
theorem lw_t1 {w : Cond} (h : w ∈ tables_1_1) : w ∈ tables_1 := List.mem_append_left _ h
theorem lw_t2 {w : Cond} (h : w ∈ tables_1_2) : w ∈ tables_1 := List.mem_append_right _ (List.mem_append_left _ h)
theorem lw_t3 {w : Cond} (h : w ∈ tables_1_3) : w ∈ tables_1 := List.mem_append_right _ (List.mem_append_right _ (List.mem_append_left _ h))
theorem lw_t4 {w : Cond} (h : w ∈ tables_1_4) : w ∈ tables_1 := List.mem_append_right _ (List.mem_append_right _ (List.mem_append_right _ (List.mem_append_left _ h)))
theorem lw_t5 {w : Cond} (h : w ∈ tables_1_5) : w ∈ tables_1 := List.mem_append_right _ (List.mem_append_right _ (List.mem_append_right _ (List.mem_append_right _ (List.mem_append_left _ h))))
theorem lw_t6 {w : Cond} (h : w ∈ tables_1_6) : w ∈ tables_1 := List.mem_append_right _ (List.mem_append_right _ (List.mem_append_right _ (List.mem_append_right _ (List.mem_append_right _ (List.mem_append_left _ h)))))
theorem lw_t7 {w : Cond} (h : w ∈ tables_1_7) : w ∈ tables_1 := List.mem_append_right _ (List.mem_append_right _ (List.mem_append_right _ (List.mem_append_right _ (List.mem_append_right _ (List.mem_append_right _ (List.mem_append_left _ h))))))
theorem lw_t8 {w : Cond} (h : w ∈ tables_1_8) : w ∈ tables_1 := List.mem_append_right _ (List.mem_append_right _ (List.mem_append_right _ (List.mem_append_right _ (List.mem_append_right _ (List.mem_append_right _ (List.mem_append_right _ (List.mem_append_left _ h)))))))
theorem lw_t9 {w : Cond} (h : w ∈ tables_1_9) : w ∈ tables_1 := List.mem_append_right _ (List.mem_append_right _ (List.mem_append_right _ (List.mem_append_right _ (List.mem_append_right _ (List.mem_append_right _ (List.mem_append_right _ (List.mem_append_right _ (List.mem_append_left _ h))))))))
theorem lw_t10 {w : Cond} (h : w ∈ tables_1_10) : w ∈ tables_1 := List.mem_append_right _ (List.mem_append_right _ (List.mem_append_right _ (List.mem_append_right _ (List.mem_append_right _ (List.mem_append_right _ (List.mem_append_right _ (List.mem_append_right _ (List.mem_append_right _ (List.mem_append_left _ h)))))))))
theorem lw_t11 {w : Cond} (h : w ∈ tables_1_11) : w ∈ tables_1 := List.mem_append_right _ (List.mem_append_right _ (List.mem_append_right _ (List.mem_append_right _ (List.mem_append_right _ (List.mem_append_right _ (List.mem_append_right _ (List.mem_append_right _ (List.mem_append_right _ (List.mem_append_right _ (List.mem_append_left _ h))))))))))
theorem lw_t12 {w : Cond} (h : w ∈ tables_1_12) : w ∈ tables_1 := List.mem_append_right _ (List.mem_append_right _ (List.mem_append_right _ (List.mem_append_right _ (List.mem_append_right _ (List.mem_append_right _ (List.mem_append_right _ (List.mem_append_right _ (List.mem_append_right _ (List.mem_append_right _ (List.mem_append_right _ h))))))))))
theorem lw_p0 : lw_okq (⟨"java/lang/Throwable", "fillInStackTrace", "(I)Ljava/lang/Throwable;"⟩, 6) := ⟨⟨by decide +kernel, by decide +kernel⟩, lw_t1 (List.mem_of_getElem? (i := 127) rfl), lw_t1 (List.mem_of_getElem? (i := 125) rfl), lw_t1 (List.mem_of_getElem? (i := 126) rfl)⟩
theorem lw_p1 : lw_okq (⟨"DotRuns", "without", "(I)LDotRuns$Sending;"⟩, 8) := ⟨⟨by decide +kernel, by decide +kernel⟩, lw_t1 (List.mem_of_getElem? (i := 44) rfl), lw_t3 (List.mem_of_getElem? (i := 28) rfl), lw_t3 (List.mem_of_getElem? (i := 29) rfl)⟩
theorem lw_p2 : lw_okq (⟨"DotRuns$Sending", "send", "(I)I"⟩, 14) := ⟨⟨by decide +kernel, by decide +kernel⟩, lw_t3 (List.mem_of_getElem? (i := 32) rfl), lw_t3 (List.mem_of_getElem? (i := 43) rfl), lw_t3 (List.mem_of_getElem? (i := 44) rfl)⟩
theorem lw_p3 : lw_okq (⟨"DotRuns$Runs", "adds", "(I)V"⟩, 2) := ⟨⟨by decide +kernel, by decide +kernel⟩, lw_t3 (List.mem_of_getElem? (i := 119) rfl), lw_t3 (List.mem_of_getElem? (i := 140) rfl), lw_t3 (List.mem_of_getElem? (i := 141) rfl)⟩
theorem lw_p4 : lw_okq (⟨"java/util/ArrayList", "add", "(Ljava/lang/Object;[Ljava/lang/Object;I)V"⟩, 3) := ⟨⟨by decide +kernel, by decide +kernel⟩, lw_t1 (List.mem_of_getElem? (i := 70) rfl), lw_t4 (List.mem_of_getElem? (i := 65) rfl), lw_t4 (List.mem_of_getElem? (i := 66) rfl)⟩
theorem lw_p5 : lw_okq (⟨"java/util/ArrayList", "grow", "()[Ljava/lang/Object;"⟩, 3) := ⟨⟨by decide +kernel, by decide +kernel⟩, lw_t1 (List.mem_of_getElem? (i := 70) rfl), lw_t4 (List.mem_of_getElem? (i := 69) rfl), lw_t4 (List.mem_of_getElem? (i := 70) rfl)⟩
theorem lw_p6 : lw_okq (⟨"java/util/ArrayList", "grow", "(I)[Ljava/lang/Object;"⟩, 3) := ⟨⟨by decide +kernel, by decide +kernel⟩, lw_t1 (List.mem_of_getElem? (i := 70) rfl), lw_t4 (List.mem_of_getElem? (i := 73) rfl), lw_t4 (List.mem_of_getElem? (i := 74) rfl)⟩
theorem lw_p7 : lw_okq (⟨"DotRuns$Sending", "fails", "(II)I"⟩, 14) := ⟨⟨by decide +kernel, by decide +kernel⟩, lw_t3 (List.mem_of_getElem? (i := 32) rfl), lw_t5 (List.mem_of_getElem? (i := 2) rfl), lw_t5 (List.mem_of_getElem? (i := 3) rfl)⟩
theorem lw_p8 : lw_okq (⟨"DotRuns$Sending", "above", "(I)LDotRuns$Line;"⟩, 14) := ⟨⟨by decide +kernel, by decide +kernel⟩, lw_t3 (List.mem_of_getElem? (i := 32) rfl), lw_t5 (List.mem_of_getElem? (i := 10) rfl), lw_t5 (List.mem_of_getElem? (i := 11) rfl)⟩
theorem lw_p9 : lw_okq (⟨"DotRuns", "marks", "()I"⟩, 8) := ⟨⟨by decide +kernel, by decide +kernel⟩, lw_t1 (List.mem_of_getElem? (i := 44) rfl), lw_t5 (List.mem_of_getElem? (i := 188) rfl), lw_t5 (List.mem_of_getElem? (i := 189) rfl)⟩
theorem lw_p10 : lw_okq (⟨"DotRuns$Reader", "next", "()V"⟩, 6) := ⟨⟨by decide +kernel, by decide +kernel⟩, lw_t5 (List.mem_of_getElem? (i := 223) rfl), lw_t5 (List.mem_of_getElem? (i := 231) rfl), lw_t5 (List.mem_of_getElem? (i := 232) rfl)⟩
theorem lw_p11 : lw_okq (⟨"DotRuns$Reader", "isAt", "(II)Z"⟩, 6) := ⟨⟨by decide +kernel, by decide +kernel⟩, lw_t5 (List.mem_of_getElem? (i := 223) rfl), lw_t5 (List.mem_of_getElem? (i := 235) rfl), lw_t5 (List.mem_of_getElem? (i := 236) rfl)⟩
theorem lw_p12 : lw_okq (⟨"DotRuns$Reader", "isDot", "()Z"⟩, 6) := ⟨⟨by decide +kernel, by decide +kernel⟩, lw_t5 (List.mem_of_getElem? (i := 223) rfl), lw_t6 (List.mem_of_getElem? (i := 2) rfl), lw_t6 (List.mem_of_getElem? (i := 3) rfl)⟩
theorem lw_p13 : lw_okq (⟨"DotRuns$Reader", "word", "()Ljava/lang/String;"⟩, 6) := ⟨⟨by decide +kernel, by decide +kernel⟩, lw_t5 (List.mem_of_getElem? (i := 223) rfl), lw_t6 (List.mem_of_getElem? (i := 29) rfl), lw_t6 (List.mem_of_getElem? (i := 30) rfl)⟩
theorem lw_p14 : lw_okq (⟨"DotRuns$Reader", "take", "(II)I"⟩, 6) := ⟨⟨by decide +kernel, by decide +kernel⟩, lw_t5 (List.mem_of_getElem? (i := 223) rfl), lw_t6 (List.mem_of_getElem? (i := 63) rfl), lw_t6 (List.mem_of_getElem? (i := 64) rfl)⟩
theorem lw_p15 : lw_okq (⟨"DotRuns$Reader", "look", "(II)I"⟩, 6) := ⟨⟨by decide +kernel, by decide +kernel⟩, lw_t5 (List.mem_of_getElem? (i := 223) rfl), lw_t6 (List.mem_of_getElem? (i := 67) rfl), lw_t6 (List.mem_of_getElem? (i := 68) rfl)⟩
def lw_privs_1 : List (MethodName × Nat) := [(⟨"java/lang/Throwable", "fillInStackTrace", "(I)Ljava/lang/Throwable;"⟩, 6), (⟨"DotRuns", "without", "(I)LDotRuns$Sending;"⟩, 8), (⟨"DotRuns$Sending", "send", "(I)I"⟩, 14), (⟨"DotRuns$Runs", "adds", "(I)V"⟩, 2), (⟨"java/util/ArrayList", "add", "(Ljava/lang/Object;[Ljava/lang/Object;I)V"⟩, 3), (⟨"java/util/ArrayList", "grow", "()[Ljava/lang/Object;"⟩, 3), (⟨"java/util/ArrayList", "grow", "(I)[Ljava/lang/Object;"⟩, 3), (⟨"DotRuns$Sending", "fails", "(II)I"⟩, 14), (⟨"DotRuns$Sending", "above", "(I)LDotRuns$Line;"⟩, 14), (⟨"DotRuns", "marks", "()I"⟩, 8), (⟨"DotRuns$Reader", "next", "()V"⟩, 6), (⟨"DotRuns$Reader", "isAt", "(II)Z"⟩, 6), (⟨"DotRuns$Reader", "isDot", "()Z"⟩, 6), (⟨"DotRuns$Reader", "word", "()Ljava/lang/String;"⟩, 6), (⟨"DotRuns$Reader", "take", "(II)I"⟩, 6), (⟨"DotRuns$Reader", "look", "(II)I"⟩, 6)]
theorem lw_r1 : ∀ q ∈ lw_privs_1, lw_okq q := List.forall_mem_cons.mpr ⟨lw_p0, List.forall_mem_cons.mpr ⟨lw_p1, List.forall_mem_cons.mpr ⟨lw_p2, List.forall_mem_cons.mpr ⟨lw_p3, List.forall_mem_cons.mpr ⟨lw_p4, List.forall_mem_cons.mpr ⟨lw_p5, List.forall_mem_cons.mpr ⟨lw_p6, List.forall_mem_cons.mpr ⟨lw_p7, List.forall_mem_cons.mpr ⟨lw_p8, List.forall_mem_cons.mpr ⟨lw_p9, List.forall_mem_cons.mpr ⟨lw_p10, List.forall_mem_cons.mpr ⟨lw_p11, List.forall_mem_cons.mpr ⟨lw_p12, List.forall_mem_cons.mpr ⟨lw_p13, List.forall_mem_cons.mpr ⟨lw_p14, List.forall_mem_cons.mpr ⟨lw_p15, fun _ h => absurd h List.not_mem_nil⟩⟩⟩⟩⟩⟩⟩⟩⟩⟩⟩⟩⟩⟩⟩⟩
theorem lw_p16 : lw_okq (⟨"DotRuns$Reader", "need", "(ZI)V"⟩, 6) := ⟨⟨by decide +kernel, by decide +kernel⟩, lw_t5 (List.mem_of_getElem? (i := 223) rfl), lw_t6 (List.mem_of_getElem? (i := 71) rfl), lw_t6 (List.mem_of_getElem? (i := 72) rfl)⟩
theorem lw_p17 : lw_okq (⟨"DotRuns$Reader", "end", "(Z)V"⟩, 6) := ⟨⟨by decide +kernel, by decide +kernel⟩, lw_t5 (List.mem_of_getElem? (i := 223) rfl), lw_t6 (List.mem_of_getElem? (i := 104) rfl), lw_t6 (List.mem_of_getElem? (i := 105) rfl)⟩
theorem lw_p18 : lw_okq (⟨"DotRuns$Reader", "isSign", "(I)Z"⟩, 6) := ⟨⟨by decide +kernel, by decide +kernel⟩, lw_t5 (List.mem_of_getElem? (i := 223) rfl), lw_t6 (List.mem_of_getElem? (i := 108) rfl), lw_t6 (List.mem_of_getElem? (i := 109) rfl)⟩
theorem lw_p19 : lw_okq (⟨"DotRuns$Reader", "statement", "()V"⟩, 6) := ⟨⟨by decide +kernel, by decide +kernel⟩, lw_t5 (List.mem_of_getElem? (i := 223) rfl), lw_t6 (List.mem_of_getElem? (i := 112) rfl), lw_t6 (List.mem_of_getElem? (i := 113) rfl)⟩
theorem lw_p20 : lw_okq (⟨"DotRuns$Reader", "dots", "()V"⟩, 6) := ⟨⟨by decide +kernel, by decide +kernel⟩, lw_t5 (List.mem_of_getElem? (i := 223) rfl), lw_t6 (List.mem_of_getElem? (i := 182) rfl), lw_t6 (List.mem_of_getElem? (i := 183) rfl)⟩
theorem lw_p21 : lw_okq (⟨"DotRuns$Reader", "opens", "()V"⟩, 6) := ⟨⟨by decide +kernel, by decide +kernel⟩, lw_t5 (List.mem_of_getElem? (i := 223) rfl), lw_t6 (List.mem_of_getElem? (i := 186) rfl), lw_t6 (List.mem_of_getElem? (i := 187) rfl)⟩
theorem lw_p22 : lw_okq (⟨"DotRuns$Reader", "alone", "()V"⟩, 6) := ⟨⟨by decide +kernel, by decide +kernel⟩, lw_t5 (List.mem_of_getElem? (i := 223) rfl), lw_t6 (List.mem_of_getElem? (i := 196) rfl), lw_t6 (List.mem_of_getElem? (i := 197) rfl)⟩
theorem lw_p23 : lw_okq (⟨"DotRuns$Reader", "above", "()V"⟩, 6) := ⟨⟨by decide +kernel, by decide +kernel⟩, lw_t5 (List.mem_of_getElem? (i := 223) rfl), lw_t6 (List.mem_of_getElem? (i := 201) rfl), lw_t6 (List.mem_of_getElem? (i := 202) rfl)⟩
theorem lw_p24 : lw_okq (⟨"DotRuns$Reader", "isMode", "()Z"⟩, 6) := ⟨⟨by decide +kernel, by decide +kernel⟩, lw_t5 (List.mem_of_getElem? (i := 223) rfl), lw_t6 (List.mem_of_getElem? (i := 208) rfl), lw_t6 (List.mem_of_getElem? (i := 209) rfl)⟩
theorem lw_p25 : lw_okq (⟨"DotRuns$Reader", "modeOf", "(Ljava/lang/String;)LDotRuns$Mode;"⟩, 6) := ⟨⟨by decide +kernel, by decide +kernel⟩, lw_t5 (List.mem_of_getElem? (i := 223) rfl), lw_t6 (List.mem_of_getElem? (i := 216) rfl), lw_t6 (List.mem_of_getElem? (i := 217) rfl)⟩
theorem lw_p26 : lw_okq (⟨"DotRuns$Reader", "signed", "()I"⟩, 6) := ⟨⟨by decide +kernel, by decide +kernel⟩, lw_t5 (List.mem_of_getElem? (i := 223) rfl), lw_t6 (List.mem_of_getElem? (i := 223) rfl), lw_t6 (List.mem_of_getElem? (i := 224) rfl)⟩
theorem lw_p27 : lw_okq (⟨"DotRuns$Reader", "horizontal", "()LDotRuns$Mode;"⟩, 6) := ⟨⟨by decide +kernel, by decide +kernel⟩, lw_t5 (List.mem_of_getElem? (i := 223) rfl), lw_t6 (List.mem_of_getElem? (i := 228) rfl), lw_t6 (List.mem_of_getElem? (i := 229) rfl)⟩
theorem lw_p28 : lw_okq (⟨"DotRuns$Reader", "setting", "()V"⟩, 6) := ⟨⟨by decide +kernel, by decide +kernel⟩, lw_t5 (List.mem_of_getElem? (i := 223) rfl), lw_t6 (List.mem_of_getElem? (i := 237) rfl), lw_t6 (List.mem_of_getElem? (i := 238) rfl)⟩
theorem lw_p29 : lw_okq (⟨"DotRuns$Reader", "loss", "()V"⟩, 6) := ⟨⟨by decide +kernel, by decide +kernel⟩, lw_t5 (List.mem_of_getElem? (i := 223) rfl), lw_t7 (List.mem_of_getElem? (i := 4) rfl), lw_t7 (List.mem_of_getElem? (i := 5) rfl)⟩
theorem lw_p30 : lw_okq (⟨"DotRuns", "sum", "(LDotRuns$Asked;)I"⟩, 8) := ⟨⟨by decide +kernel, by decide +kernel⟩, lw_t1 (List.mem_of_getElem? (i := 44) rfl), lw_t7 (List.mem_of_getElem? (i := 106) rfl), lw_t7 (List.mem_of_getElem? (i := 107) rfl)⟩
theorem lw_p31 : lw_okq (⟨"DotRuns", "isLine", "(I)Z"⟩, 8) := ⟨⟨by decide +kernel, by decide +kernel⟩, lw_t1 (List.mem_of_getElem? (i := 44) rfl), lw_t7 (List.mem_of_getElem? (i := 154) rfl), lw_t7 (List.mem_of_getElem? (i := 155) rfl)⟩
def lw_privs_2 : List (MethodName × Nat) := [(⟨"DotRuns$Reader", "need", "(ZI)V"⟩, 6), (⟨"DotRuns$Reader", "end", "(Z)V"⟩, 6), (⟨"DotRuns$Reader", "isSign", "(I)Z"⟩, 6), (⟨"DotRuns$Reader", "statement", "()V"⟩, 6), (⟨"DotRuns$Reader", "dots", "()V"⟩, 6), (⟨"DotRuns$Reader", "opens", "()V"⟩, 6), (⟨"DotRuns$Reader", "alone", "()V"⟩, 6), (⟨"DotRuns$Reader", "above", "()V"⟩, 6), (⟨"DotRuns$Reader", "isMode", "()Z"⟩, 6), (⟨"DotRuns$Reader", "modeOf", "(Ljava/lang/String;)LDotRuns$Mode;"⟩, 6), (⟨"DotRuns$Reader", "signed", "()I"⟩, 6), (⟨"DotRuns$Reader", "horizontal", "()LDotRuns$Mode;"⟩, 6), (⟨"DotRuns$Reader", "setting", "()V"⟩, 6), (⟨"DotRuns$Reader", "loss", "()V"⟩, 6), (⟨"DotRuns", "sum", "(LDotRuns$Asked;)I"⟩, 8), (⟨"DotRuns", "isLine", "(I)Z"⟩, 8)]
theorem lw_r2 : ∀ q ∈ lw_privs_2, lw_okq q := List.forall_mem_cons.mpr ⟨lw_p16, List.forall_mem_cons.mpr ⟨lw_p17, List.forall_mem_cons.mpr ⟨lw_p18, List.forall_mem_cons.mpr ⟨lw_p19, List.forall_mem_cons.mpr ⟨lw_p20, List.forall_mem_cons.mpr ⟨lw_p21, List.forall_mem_cons.mpr ⟨lw_p22, List.forall_mem_cons.mpr ⟨lw_p23, List.forall_mem_cons.mpr ⟨lw_p24, List.forall_mem_cons.mpr ⟨lw_p25, List.forall_mem_cons.mpr ⟨lw_p26, List.forall_mem_cons.mpr ⟨lw_p27, List.forall_mem_cons.mpr ⟨lw_p28, List.forall_mem_cons.mpr ⟨lw_p29, List.forall_mem_cons.mpr ⟨lw_p30, List.forall_mem_cons.mpr ⟨lw_p31, fun _ h => absurd h List.not_mem_nil⟩⟩⟩⟩⟩⟩⟩⟩⟩⟩⟩⟩⟩⟩⟩⟩
theorem lw_p32 : lw_okq (⟨"DotRuns", "lineAt", "(I)LDotRuns$Line;"⟩, 8) := ⟨⟨by decide +kernel, by decide +kernel⟩, lw_t1 (List.mem_of_getElem? (i := 44) rfl), lw_t7 (List.mem_of_getElem? (i := 182) rfl), lw_t7 (List.mem_of_getElem? (i := 183) rfl)⟩
theorem lw_p33 : lw_okq (⟨"DotRuns", "overRuns", "(ILDotRuns$Taking;)I"⟩, 8) := ⟨⟨by decide +kernel, by decide +kernel⟩, lw_t1 (List.mem_of_getElem? (i := 44) rfl), lw_t7 (List.mem_of_getElem? (i := 230) rfl), lw_t7 (List.mem_of_getElem? (i := 231) rfl)⟩
theorem lw_p34 : lw_okq (⟨"DotRuns", "edited", "()LDotRuns$Page;"⟩, 8) := ⟨⟨by decide +kernel, by decide +kernel⟩, lw_t1 (List.mem_of_getElem? (i := 44) rfl), lw_t8 (List.mem_of_getElem? (i := 25) rfl), lw_t8 (List.mem_of_getElem? (i := 26) rfl)⟩
theorem lw_p35 : lw_okq (⟨"java/util/ArrayDeque", "grow", "(I)V"⟩, 3) := ⟨⟨by decide +kernel, by decide +kernel⟩, lw_t2 (List.mem_of_getElem? (i := 206) rfl), lw_t8 (List.mem_of_getElem? (i := 44) rfl), lw_t8 (List.mem_of_getElem? (i := 45) rfl)⟩
theorem lw_p36 : lw_okq (⟨"java/util/ArrayDeque", "newCapacity", "(II)I"⟩, 3) := ⟨⟨by decide +kernel, by decide +kernel⟩, lw_t2 (List.mem_of_getElem? (i := 206) rfl), lw_t8 (List.mem_of_getElem? (i := 49) rfl), lw_t8 (List.mem_of_getElem? (i := 50) rfl)⟩
theorem lw_p37 : lw_okq (⟨"DotRuns", "isPart", "(II)Z"⟩, 8) := ⟨⟨by decide +kernel, by decide +kernel⟩, lw_t1 (List.mem_of_getElem? (i := 44) rfl), lw_t8 (List.mem_of_getElem? (i := 83) rfl), lw_t8 (List.mem_of_getElem? (i := 84) rfl)⟩
theorem lw_p38 : lw_okq (⟨"java/util/ArrayList", "rangeCheckForAdd", "(I)V"⟩, 3) := ⟨⟨by decide +kernel, by decide +kernel⟩, lw_t1 (List.mem_of_getElem? (i := 70) rfl), lw_t8 (List.mem_of_getElem? (i := 141) rfl), lw_t8 (List.mem_of_getElem? (i := 142) rfl)⟩
theorem lw_p39 : lw_okq (⟨"java/util/ArrayList", "outOfBoundsMsg", "(I)Ljava/lang/String;"⟩, 3) := ⟨⟨by decide +kernel, by decide +kernel⟩, lw_t1 (List.mem_of_getElem? (i := 70) rfl), lw_t8 (List.mem_of_getElem? (i := 146) rfl), lw_t8 (List.mem_of_getElem? (i := 147) rfl)⟩
theorem lw_p40 : lw_okq (⟨"java/util/ArrayList", "fastRemove", "([Ljava/lang/Object;I)V"⟩, 3) := ⟨⟨by decide +kernel, by decide +kernel⟩, lw_t1 (List.mem_of_getElem? (i := 70) rfl), lw_t8 (List.mem_of_getElem? (i := 170) rfl), lw_t8 (List.mem_of_getElem? (i := 171) rfl)⟩
theorem lw_p41 : lw_okq (⟨"DotRuns", "tellMode", "(LDotRuns$Mode;)V"⟩, 8) := ⟨⟨by decide +kernel, by decide +kernel⟩, lw_t1 (List.mem_of_getElem? (i := 44) rfl), lw_t9 (List.mem_of_getElem? (i := 53) rfl), lw_t9 (List.mem_of_getElem? (i := 54) rfl)⟩
theorem lw_p42 : lw_okq (⟨"DotRuns", "tell", "(Ljava/lang/CharSequence;)V"⟩, 8) := ⟨⟨by decide +kernel, by decide +kernel⟩, lw_t1 (List.mem_of_getElem? (i := 44) rfl), lw_t9 (List.mem_of_getElem? (i := 83) rfl), lw_t9 (List.mem_of_getElem? (i := 84) rfl)⟩
theorem lw_p43 : lw_okq (⟨"DotRunsModel", "begins", "(I)V"⟩, 42) := ⟨⟨by decide +kernel, by decide +kernel⟩, lw_t9 (List.mem_of_getElem? (i := 143) rfl), lw_t9 (List.mem_of_getElem? (i := 149) rfl), lw_t9 (List.mem_of_getElem? (i := 150) rfl)⟩
theorem lw_p44 : lw_okq (⟨"DotRunsModel", "sumOf", "(I)I"⟩, 42) := ⟨⟨by decide +kernel, by decide +kernel⟩, lw_t9 (List.mem_of_getElem? (i := 143) rfl), lw_t10 (List.mem_of_getElem? (i := 55) rfl), lw_t10 (List.mem_of_getElem? (i := 56) rfl)⟩
theorem lw_p45 : lw_okq (⟨"DotRunsModel", "blacks", "(I)I"⟩, 42) := ⟨⟨by decide +kernel, by decide +kernel⟩, lw_t9 (List.mem_of_getElem? (i := 143) rfl), lw_t10 (List.mem_of_getElem? (i := 59) rfl), lw_t10 (List.mem_of_getElem? (i := 60) rfl)⟩
theorem lw_p46 : lw_okq (⟨"DotRunsModel", "changes", "(I)I"⟩, 42) := ⟨⟨by decide +kernel, by decide +kernel⟩, lw_t9 (List.mem_of_getElem? (i := 143) rfl), lw_t10 (List.mem_of_getElem? (i := 66) rfl), lw_t10 (List.mem_of_getElem? (i := 67) rfl)⟩
theorem lw_p47 : lw_okq (⟨"DotRunsModel", "ahead", "(II)I"⟩, 42) := ⟨⟨by decide +kernel, by decide +kernel⟩, lw_t9 (List.mem_of_getElem? (i := 143) rfl), lw_t10 (List.mem_of_getElem? (i := 70) rfl), lw_t10 (List.mem_of_getElem? (i := 71) rfl)⟩
def lw_privs_3 : List (MethodName × Nat) := [(⟨"DotRuns", "lineAt", "(I)LDotRuns$Line;"⟩, 8), (⟨"DotRuns", "overRuns", "(ILDotRuns$Taking;)I"⟩, 8), (⟨"DotRuns", "edited", "()LDotRuns$Page;"⟩, 8), (⟨"java/util/ArrayDeque", "grow", "(I)V"⟩, 3), (⟨"java/util/ArrayDeque", "newCapacity", "(II)I"⟩, 3), (⟨"DotRuns", "isPart", "(II)Z"⟩, 8), (⟨"java/util/ArrayList", "rangeCheckForAdd", "(I)V"⟩, 3), (⟨"java/util/ArrayList", "outOfBoundsMsg", "(I)Ljava/lang/String;"⟩, 3), (⟨"java/util/ArrayList", "fastRemove", "([Ljava/lang/Object;I)V"⟩, 3), (⟨"DotRuns", "tellMode", "(LDotRuns$Mode;)V"⟩, 8), (⟨"DotRuns", "tell", "(Ljava/lang/CharSequence;)V"⟩, 8), (⟨"DotRunsModel", "begins", "(I)V"⟩, 42), (⟨"DotRunsModel", "sumOf", "(I)I"⟩, 42), (⟨"DotRunsModel", "blacks", "(I)I"⟩, 42), (⟨"DotRunsModel", "changes", "(I)I"⟩, 42), (⟨"DotRunsModel", "ahead", "(II)I"⟩, 42)]
theorem lw_r3 : ∀ q ∈ lw_privs_3, lw_okq q := List.forall_mem_cons.mpr ⟨lw_p32, List.forall_mem_cons.mpr ⟨lw_p33, List.forall_mem_cons.mpr ⟨lw_p34, List.forall_mem_cons.mpr ⟨lw_p35, List.forall_mem_cons.mpr ⟨lw_p36, List.forall_mem_cons.mpr ⟨lw_p37, List.forall_mem_cons.mpr ⟨lw_p38, List.forall_mem_cons.mpr ⟨lw_p39, List.forall_mem_cons.mpr ⟨lw_p40, List.forall_mem_cons.mpr ⟨lw_p41, List.forall_mem_cons.mpr ⟨lw_p42, List.forall_mem_cons.mpr ⟨lw_p43, List.forall_mem_cons.mpr ⟨lw_p44, List.forall_mem_cons.mpr ⟨lw_p45, List.forall_mem_cons.mpr ⟨lw_p46, List.forall_mem_cons.mpr ⟨lw_p47, fun _ h => absurd h List.not_mem_nil⟩⟩⟩⟩⟩⟩⟩⟩⟩⟩⟩⟩⟩⟩⟩⟩
theorem lw_p48 : lw_okq (⟨"DotRunsModel", "isMark", "(I)Z"⟩, 42) := ⟨⟨by decide +kernel, by decide +kernel⟩, lw_t9 (List.mem_of_getElem? (i := 143) rfl), lw_t10 (List.mem_of_getElem? (i := 74) rfl), lw_t10 (List.mem_of_getElem? (i := 75) rfl)⟩
theorem lw_p49 : lw_okq (⟨"DotRunsModel", "codesLine", "(I)V"⟩, 42) := ⟨⟨by decide +kernel, by decide +kernel⟩, lw_t9 (List.mem_of_getElem? (i := 143) rfl), lw_t10 (List.mem_of_getElem? (i := 78) rfl), lw_t10 (List.mem_of_getElem? (i := 79) rfl)⟩
theorem lw_p50 : lw_okq (⟨"DotRunsModel", "laysLine", "(I)V"⟩, 42) := ⟨⟨by decide +kernel, by decide +kernel⟩, lw_t9 (List.mem_of_getElem? (i := 143) rfl), lw_t10 (List.mem_of_getElem? (i := 82) rfl), lw_t10 (List.mem_of_getElem? (i := 83) rfl)⟩
theorem lw_p51 : lw_okq (⟨"DotRunsModel", "laysUpper", "([II)V"⟩, 42) := ⟨⟨by decide +kernel, by decide +kernel⟩, lw_t9 (List.mem_of_getElem? (i := 143) rfl), lw_t10 (List.mem_of_getElem? (i := 86) rfl), lw_t10 (List.mem_of_getElem? (i := 87) rfl)⟩
theorem lw_p52 : lw_okq (⟨"DotRunsModel", "laysLower", "([II)V"⟩, 42) := ⟨⟨by decide +kernel, by decide +kernel⟩, lw_t9 (List.mem_of_getElem? (i := 143) rfl), lw_t10 (List.mem_of_getElem? (i := 90) rfl), lw_t10 (List.mem_of_getElem? (i := 91) rfl)⟩
theorem lw_p53 : lw_okq (⟨"DotRunsModel", "codes", "()V"⟩, 42) := ⟨⟨by decide +kernel, by decide +kernel⟩, lw_t9 (List.mem_of_getElem? (i := 143) rfl), lw_t10 (List.mem_of_getElem? (i := 94) rfl), lw_t10 (List.mem_of_getElem? (i := 95) rfl)⟩
theorem lw_p54 : lw_okq (⟨"DotRunsModel", "dotBehind", "(II)I"⟩, 42) := ⟨⟨by decide +kernel, by decide +kernel⟩, lw_t9 (List.mem_of_getElem? (i := 143) rfl), lw_t10 (List.mem_of_getElem? (i := 98) rfl), lw_t10 (List.mem_of_getElem? (i := 99) rfl)⟩
theorem lw_p55 : lw_okq (⟨"DotRunsModel", "changeBehind", "(II)I"⟩, 42) := ⟨⟨by decide +kernel, by decide +kernel⟩, lw_t9 (List.mem_of_getElem? (i := 143) rfl), lw_t10 (List.mem_of_getElem? (i := 102) rfl), lw_t10 (List.mem_of_getElem? (i := 103) rfl)⟩
theorem lw_p56 : lw_okq (⟨"DotRunsModel", "isChange", "(I)Z"⟩, 42) := ⟨⟨by decide +kernel, by decide +kernel⟩, lw_t9 (List.mem_of_getElem? (i := 143) rfl), lw_t10 (List.mem_of_getElem? (i := 106) rfl), lw_t10 (List.mem_of_getElem? (i := 107) rfl)⟩
theorem lw_p57 : lw_okq (⟨"DotRunsModel", "adds", "(IIII)V"⟩, 42) := ⟨⟨by decide +kernel, by decide +kernel⟩, lw_t9 (List.mem_of_getElem? (i := 143) rfl), lw_t10 (List.mem_of_getElem? (i := 110) rfl), lw_t10 (List.mem_of_getElem? (i := 111) rfl)⟩
theorem lw_p58 : lw_okq (⟨"DotRunsModel", "codesAlone", "()V"⟩, 42) := ⟨⟨by decide +kernel, by decide +kernel⟩, lw_t9 (List.mem_of_getElem? (i := 143) rfl), lw_t10 (List.mem_of_getElem? (i := 117) rfl), lw_t10 (List.mem_of_getElem? (i := 118) rfl)⟩
theorem lw_p59 : lw_okq (⟨"DotRunsModel", "aloneBits", "()I"⟩, 42) := ⟨⟨by decide +kernel, by decide +kernel⟩, lw_t9 (List.mem_of_getElem? (i := 143) rfl), lw_t10 (List.mem_of_getElem? (i := 121) rfl), lw_t10 (List.mem_of_getElem? (i := 122) rfl)⟩
theorem lw_p60 : lw_okq (⟨"DotRunsModel", "codeBits", "()I"⟩, 42) := ⟨⟨by decide +kernel, by decide +kernel⟩, lw_t9 (List.mem_of_getElem? (i := 143) rfl), lw_t10 (List.mem_of_getElem? (i := 128) rfl), lw_t10 (List.mem_of_getElem? (i := 129) rfl)⟩
theorem lw_p61 : lw_okq (⟨"DotRunsModel", "differs", "(II)I"⟩, 42) := ⟨⟨by decide +kernel, by decide +kernel⟩, lw_t9 (List.mem_of_getElem? (i := 143) rfl), lw_t10 (List.mem_of_getElem? (i := 132) rfl), lw_t10 (List.mem_of_getElem? (i := 133) rfl)⟩
theorem lw_p62 : lw_okq (⟨"DotRunsModel", "isDot", "(II)Z"⟩, 42) := ⟨⟨by decide +kernel, by decide +kernel⟩, lw_t9 (List.mem_of_getElem? (i := 143) rfl), lw_t10 (List.mem_of_getElem? (i := 140) rfl), lw_t10 (List.mem_of_getElem? (i := 141) rfl)⟩
theorem lw_p63 : lw_okq (⟨"DotRunsModel", "isLine", "(I)Z"⟩, 42) := ⟨⟨by decide +kernel, by decide +kernel⟩, lw_t9 (List.mem_of_getElem? (i := 143) rfl), lw_t10 (List.mem_of_getElem? (i := 144) rfl), lw_t10 (List.mem_of_getElem? (i := 145) rfl)⟩
def lw_privs_4 : List (MethodName × Nat) := [(⟨"DotRunsModel", "isMark", "(I)Z"⟩, 42), (⟨"DotRunsModel", "codesLine", "(I)V"⟩, 42), (⟨"DotRunsModel", "laysLine", "(I)V"⟩, 42), (⟨"DotRunsModel", "laysUpper", "([II)V"⟩, 42), (⟨"DotRunsModel", "laysLower", "([II)V"⟩, 42), (⟨"DotRunsModel", "codes", "()V"⟩, 42), (⟨"DotRunsModel", "dotBehind", "(II)I"⟩, 42), (⟨"DotRunsModel", "changeBehind", "(II)I"⟩, 42), (⟨"DotRunsModel", "isChange", "(I)Z"⟩, 42), (⟨"DotRunsModel", "adds", "(IIII)V"⟩, 42), (⟨"DotRunsModel", "codesAlone", "()V"⟩, 42), (⟨"DotRunsModel", "aloneBits", "()I"⟩, 42), (⟨"DotRunsModel", "codeBits", "()I"⟩, 42), (⟨"DotRunsModel", "differs", "(II)I"⟩, 42), (⟨"DotRunsModel", "isDot", "(II)Z"⟩, 42), (⟨"DotRunsModel", "isLine", "(I)Z"⟩, 42)]
theorem lw_r4 : ∀ q ∈ lw_privs_4, lw_okq q := List.forall_mem_cons.mpr ⟨lw_p48, List.forall_mem_cons.mpr ⟨lw_p49, List.forall_mem_cons.mpr ⟨lw_p50, List.forall_mem_cons.mpr ⟨lw_p51, List.forall_mem_cons.mpr ⟨lw_p52, List.forall_mem_cons.mpr ⟨lw_p53, List.forall_mem_cons.mpr ⟨lw_p54, List.forall_mem_cons.mpr ⟨lw_p55, List.forall_mem_cons.mpr ⟨lw_p56, List.forall_mem_cons.mpr ⟨lw_p57, List.forall_mem_cons.mpr ⟨lw_p58, List.forall_mem_cons.mpr ⟨lw_p59, List.forall_mem_cons.mpr ⟨lw_p60, List.forall_mem_cons.mpr ⟨lw_p61, List.forall_mem_cons.mpr ⟨lw_p62, List.forall_mem_cons.mpr ⟨lw_p63, fun _ h => absurd h List.not_mem_nil⟩⟩⟩⟩⟩⟩⟩⟩⟩⟩⟩⟩⟩⟩⟩⟩
theorem lw_p64 : lw_okq (⟨"DotRunsModel", "sentBits", "(I)I"⟩, 42) := ⟨⟨by decide +kernel, by decide +kernel⟩, lw_t9 (List.mem_of_getElem? (i := 143) rfl), lw_t10 (List.mem_of_getElem? (i := 152) rfl), lw_t10 (List.mem_of_getElem? (i := 153) rfl)⟩
theorem lw_p65 : lw_okq (⟨"DotRunsModel", "markUpTo", "(I)I"⟩, 42) := ⟨⟨by decide +kernel, by decide +kernel⟩, lw_t9 (List.mem_of_getElem? (i := 143) rfl), lw_t10 (List.mem_of_getElem? (i := 156) rfl), lw_t10 (List.mem_of_getElem? (i := 157) rfl)⟩
theorem lw_p66 : lw_okq (⟨"DotRunsModel", "modesOf", "(I)I"⟩, 42) := ⟨⟨by decide +kernel, by decide +kernel⟩, lw_t9 (List.mem_of_getElem? (i := 143) rfl), lw_t10 (List.mem_of_getElem? (i := 160) rfl), lw_t10 (List.mem_of_getElem? (i := 161) rfl)⟩
theorem lw_p67 : lw_okq (⟨"DotRunsModel", "rowFrom", "(III)I"⟩, 42) := ⟨⟨by decide +kernel, by decide +kernel⟩, lw_t9 (List.mem_of_getElem? (i := 143) rfl), lw_t10 (List.mem_of_getElem? (i := 180) rfl), lw_t10 (List.mem_of_getElem? (i := 181) rfl)⟩
theorem lw_p68 : lw_okq (⟨"DotRunsModel", "beginsRow", "(III)Z"⟩, 42) := ⟨⟨by decide +kernel, by decide +kernel⟩, lw_t9 (List.mem_of_getElem? (i := 143) rfl), lw_t10 (List.mem_of_getElem? (i := 188) rfl), lw_t10 (List.mem_of_getElem? (i := 189) rfl)⟩
theorem lw_p69 : lw_okq (⟨"DotRunsModel", "readsCode", "()Z"⟩, 42) := ⟨⟨by decide +kernel, by decide +kernel⟩, lw_t9 (List.mem_of_getElem? (i := 143) rfl), lw_t10 (List.mem_of_getElem? (i := 196) rfl), lw_t10 (List.mem_of_getElem? (i := 197) rfl)⟩
theorem lw_p70 : lw_okq (⟨"DotRunsModel", "startsReading", "()V"⟩, 42) := ⟨⟨by decide +kernel, by decide +kernel⟩, lw_t9 (List.mem_of_getElem? (i := 143) rfl), lw_t10 (List.mem_of_getElem? (i := 200) rfl), lw_t10 (List.mem_of_getElem? (i := 201) rfl)⟩
theorem lw_p71 : lw_okq (⟨"DotRunsModel", "readsMode", "(III)Z"⟩, 42) := ⟨⟨by decide +kernel, by decide +kernel⟩, lw_t9 (List.mem_of_getElem? (i := 143) rfl), lw_t10 (List.mem_of_getElem? (i := 204) rfl), lw_t10 (List.mem_of_getElem? (i := 205) rfl)⟩
theorem lw_p72 : lw_okq (⟨"DotRunsModel", "paints", "(III)V"⟩, 42) := ⟨⟨by decide +kernel, by decide +kernel⟩, lw_t9 (List.mem_of_getElem? (i := 143) rfl), lw_t10 (List.mem_of_getElem? (i := 208) rfl), lw_t10 (List.mem_of_getElem? (i := 209) rfl)⟩
theorem lw_p73 : lw_okq (⟨"DotRunsModel", "keeps", "()V"⟩, 42) := ⟨⟨by decide +kernel, by decide +kernel⟩, lw_t9 (List.mem_of_getElem? (i := 143) rfl), lw_t10 (List.mem_of_getElem? (i := 222) rfl), lw_t10 (List.mem_of_getElem? (i := 223) rfl)⟩
theorem lw_p74 : lw_okq (⟨"DotRunsModel", "isPart", "(II)Z"⟩, 42) := ⟨⟨by decide +kernel, by decide +kernel⟩, lw_t9 (List.mem_of_getElem? (i := 143) rfl), lw_t10 (List.mem_of_getElem? (i := 234) rfl), lw_t10 (List.mem_of_getElem? (i := 235) rfl)⟩
theorem lw_p75 : lw_okq (⟨"DotRunsModel", "clearsLine", "(I)V"⟩, 42) := ⟨⟨by decide +kernel, by decide +kernel⟩, lw_t9 (List.mem_of_getElem? (i := 143) rfl), lw_t10 (List.mem_of_getElem? (i := 238) rfl), lw_t10 (List.mem_of_getElem? (i := 239) rfl)⟩
theorem lw_p76 : lw_okq (⟨"DotRunsModel", "paintsLine", "(IIII)I"⟩, 42) := ⟨⟨by decide +kernel, by decide +kernel⟩, lw_t9 (List.mem_of_getElem? (i := 143) rfl), lw_t11 (List.mem_of_getElem? (i := 2) rfl), lw_t11 (List.mem_of_getElem? (i := 3) rfl)⟩
theorem lw_p77 : lw_okq (⟨"DotRunsModel", "movesLine", "(II)V"⟩, 42) := ⟨⟨by decide +kernel, by decide +kernel⟩, lw_t9 (List.mem_of_getElem? (i := 143) rfl), lw_t11 (List.mem_of_getElem? (i := 18) rfl), lw_t11 (List.mem_of_getElem? (i := 19) rfl)⟩
theorem lw_p78 : lw_okq (⟨"DotRunsModel", "sendsPage", "()V"⟩, 42) := ⟨⟨by decide +kernel, by decide +kernel⟩, lw_t9 (List.mem_of_getElem? (i := 143) rfl), lw_t11 (List.mem_of_getElem? (i := 38) rfl), lw_t11 (List.mem_of_getElem? (i := 39) rfl)⟩
theorem lw_p79 : lw_okq (⟨"DotRunsModel", "laysLosses", "()V"⟩, 42) := ⟨⟨by decide +kernel, by decide +kernel⟩, lw_t9 (List.mem_of_getElem? (i := 143) rfl), lw_t11 (List.mem_of_getElem? (i := 42) rfl), lw_t11 (List.mem_of_getElem? (i := 43) rfl)⟩
def lw_privs_5 : List (MethodName × Nat) := [(⟨"DotRunsModel", "sentBits", "(I)I"⟩, 42), (⟨"DotRunsModel", "markUpTo", "(I)I"⟩, 42), (⟨"DotRunsModel", "modesOf", "(I)I"⟩, 42), (⟨"DotRunsModel", "rowFrom", "(III)I"⟩, 42), (⟨"DotRunsModel", "beginsRow", "(III)Z"⟩, 42), (⟨"DotRunsModel", "readsCode", "()Z"⟩, 42), (⟨"DotRunsModel", "startsReading", "()V"⟩, 42), (⟨"DotRunsModel", "readsMode", "(III)Z"⟩, 42), (⟨"DotRunsModel", "paints", "(III)V"⟩, 42), (⟨"DotRunsModel", "keeps", "()V"⟩, 42), (⟨"DotRunsModel", "isPart", "(II)Z"⟩, 42), (⟨"DotRunsModel", "clearsLine", "(I)V"⟩, 42), (⟨"DotRunsModel", "paintsLine", "(IIII)I"⟩, 42), (⟨"DotRunsModel", "movesLine", "(II)V"⟩, 42), (⟨"DotRunsModel", "sendsPage", "()V"⟩, 42), (⟨"DotRunsModel", "laysLosses", "()V"⟩, 42)]
theorem lw_r5 : ∀ q ∈ lw_privs_5, lw_okq q := List.forall_mem_cons.mpr ⟨lw_p64, List.forall_mem_cons.mpr ⟨lw_p65, List.forall_mem_cons.mpr ⟨lw_p66, List.forall_mem_cons.mpr ⟨lw_p67, List.forall_mem_cons.mpr ⟨lw_p68, List.forall_mem_cons.mpr ⟨lw_p69, List.forall_mem_cons.mpr ⟨lw_p70, List.forall_mem_cons.mpr ⟨lw_p71, List.forall_mem_cons.mpr ⟨lw_p72, List.forall_mem_cons.mpr ⟨lw_p73, List.forall_mem_cons.mpr ⟨lw_p74, List.forall_mem_cons.mpr ⟨lw_p75, List.forall_mem_cons.mpr ⟨lw_p76, List.forall_mem_cons.mpr ⟨lw_p77, List.forall_mem_cons.mpr ⟨lw_p78, List.forall_mem_cons.mpr ⟨lw_p79, fun _ h => absurd h List.not_mem_nil⟩⟩⟩⟩⟩⟩⟩⟩⟩⟩⟩⟩⟩⟩⟩⟩
theorem lw_p80 : lw_okq (⟨"DotRunsModel", "sendsAll", "()V"⟩, 42) := ⟨⟨by decide +kernel, by decide +kernel⟩, lw_t9 (List.mem_of_getElem? (i := 143) rfl), lw_t11 (List.mem_of_getElem? (i := 46) rfl), lw_t11 (List.mem_of_getElem? (i := 47) rfl)⟩
theorem lw_p81 : lw_okq (⟨"DotRunsModel", "sends", "(I)I"⟩, 42) := ⟨⟨by decide +kernel, by decide +kernel⟩, lw_t9 (List.mem_of_getElem? (i := 143) rfl), lw_t11 (List.mem_of_getElem? (i := 50) rfl), lw_t11 (List.mem_of_getElem? (i := 51) rfl)⟩
theorem lw_p82 : lw_okq (⟨"DotRunsModel", "isRead", "(I)Z"⟩, 42) := ⟨⟨by decide +kernel, by decide +kernel⟩, lw_t9 (List.mem_of_getElem? (i := 143) rfl), lw_t11 (List.mem_of_getElem? (i := 54) rfl), lw_t11 (List.mem_of_getElem? (i := 55) rfl)⟩
theorem lw_p83 : lw_okq (⟨"DotRunsModel", "wrongIn", "(I)I"⟩, 42) := ⟨⟨by decide +kernel, by decide +kernel⟩, lw_t9 (List.mem_of_getElem? (i := 143) rfl), lw_t11 (List.mem_of_getElem? (i := 58) rfl), lw_t11 (List.mem_of_getElem? (i := 59) rfl)⟩
theorem lw_p84 : lw_okq (⟨"DotRunsModel", "fills", "(II)V"⟩, 42) := ⟨⟨by decide +kernel, by decide +kernel⟩, lw_t9 (List.mem_of_getElem? (i := 143) rfl), lw_t11 (List.mem_of_getElem? (i := 62) rfl), lw_t11 (List.mem_of_getElem? (i := 63) rfl)⟩
theorem lw_p85 : lw_okq (⟨"DotRunsModel", "wrongDots", "()I"⟩, 42) := ⟨⟨by decide +kernel, by decide +kernel⟩, lw_t9 (List.mem_of_getElem? (i := 143) rfl), lw_t11 (List.mem_of_getElem? (i := 66) rfl), lw_t11 (List.mem_of_getElem? (i := 67) rfl)⟩
theorem lw_p86 : lw_okq (⟨"DotRunsModel", "statesOf", "(I)I"⟩, 42) := ⟨⟨by decide +kernel, by decide +kernel⟩, lw_t9 (List.mem_of_getElem? (i := 143) rfl), lw_t11 (List.mem_of_getElem? (i := 70) rfl), lw_t11 (List.mem_of_getElem? (i := 71) rfl)⟩
theorem lw_p87 : lw_okq (⟨"DotRunsModel", "sendsHarmed", "(I)V"⟩, 42) := ⟨⟨by decide +kernel, by decide +kernel⟩, lw_t9 (List.mem_of_getElem? (i := 143) rfl), lw_t11 (List.mem_of_getElem? (i := 86) rfl), lw_t11 (List.mem_of_getElem? (i := 87) rfl)⟩
theorem lw_p88 : lw_okq (⟨"DotRunsModel", "harmOf", "(I)I"⟩, 42) := ⟨⟨by decide +kernel, by decide +kernel⟩, lw_t9 (List.mem_of_getElem? (i := 143) rfl), lw_t11 (List.mem_of_getElem? (i := 90) rfl), lw_t11 (List.mem_of_getElem? (i := 91) rfl)⟩
theorem lw_p89 : lw_okq (⟨"DotRunsModel", "advances", "()V"⟩, 42) := ⟨⟨by decide +kernel, by decide +kernel⟩, lw_t9 (List.mem_of_getElem? (i := 143) rfl), lw_t11 (List.mem_of_getElem? (i := 126) rfl), lw_t11 (List.mem_of_getElem? (i := 127) rfl)⟩
theorem lw_p90 : lw_okq (⟨"DotRunsModel", "see", "()I"⟩, 42) := ⟨⟨by decide +kernel, by decide +kernel⟩, lw_t9 (List.mem_of_getElem? (i := 143) rfl), lw_t11 (List.mem_of_getElem? (i := 130) rfl), lw_t11 (List.mem_of_getElem? (i := 131) rfl)⟩
theorem lw_p91 : lw_okq (⟨"DotRunsModel", "wordHere", "()I"⟩, 42) := ⟨⟨by decide +kernel, by decide +kernel⟩, lw_t9 (List.mem_of_getElem? (i := 143) rfl), lw_t11 (List.mem_of_getElem? (i := 137) rfl), lw_t11 (List.mem_of_getElem? (i := 138) rfl)⟩
theorem lw_p92 : lw_okq (⟨"DotRunsModel", "goesOn", "()V"⟩, 42) := ⟨⟨by decide +kernel, by decide +kernel⟩, lw_t9 (List.mem_of_getElem? (i := 143) rfl), lw_t11 (List.mem_of_getElem? (i := 141) rfl), lw_t11 (List.mem_of_getElem? (i := 142) rfl)⟩
theorem lw_p93 : lw_okq (⟨"DotRunsModel", "reads", "(II)I"⟩, 42) := ⟨⟨by decide +kernel, by decide +kernel⟩, lw_t9 (List.mem_of_getElem? (i := 143) rfl), lw_t11 (List.mem_of_getElem? (i := 145) rfl), lw_t11 (List.mem_of_getElem? (i := 146) rfl)⟩
theorem lw_p94 : lw_okq (⟨"DotRunsModel", "looks", "(II)I"⟩, 42) := ⟨⟨by decide +kernel, by decide +kernel⟩, lw_t9 (List.mem_of_getElem? (i := 143) rfl), lw_t11 (List.mem_of_getElem? (i := 149) rfl), lw_t11 (List.mem_of_getElem? (i := 150) rfl)⟩
theorem lw_p95 : lw_okq (⟨"DotRunsModel", "must", "(ZI)V"⟩, 42) := ⟨⟨by decide +kernel, by decide +kernel⟩, lw_t9 (List.mem_of_getElem? (i := 143) rfl), lw_t11 (List.mem_of_getElem? (i := 153) rfl), lw_t11 (List.mem_of_getElem? (i := 154) rfl)⟩
def lw_privs_6 : List (MethodName × Nat) := [(⟨"DotRunsModel", "sendsAll", "()V"⟩, 42), (⟨"DotRunsModel", "sends", "(I)I"⟩, 42), (⟨"DotRunsModel", "isRead", "(I)Z"⟩, 42), (⟨"DotRunsModel", "wrongIn", "(I)I"⟩, 42), (⟨"DotRunsModel", "fills", "(II)V"⟩, 42), (⟨"DotRunsModel", "wrongDots", "()I"⟩, 42), (⟨"DotRunsModel", "statesOf", "(I)I"⟩, 42), (⟨"DotRunsModel", "sendsHarmed", "(I)V"⟩, 42), (⟨"DotRunsModel", "harmOf", "(I)I"⟩, 42), (⟨"DotRunsModel", "advances", "()V"⟩, 42), (⟨"DotRunsModel", "see", "()I"⟩, 42), (⟨"DotRunsModel", "wordHere", "()I"⟩, 42), (⟨"DotRunsModel", "goesOn", "()V"⟩, 42), (⟨"DotRunsModel", "reads", "(II)I"⟩, 42), (⟨"DotRunsModel", "looks", "(II)I"⟩, 42), (⟨"DotRunsModel", "must", "(ZI)V"⟩, 42)]
theorem lw_r6 : ∀ q ∈ lw_privs_6, lw_okq q := List.forall_mem_cons.mpr ⟨lw_p80, List.forall_mem_cons.mpr ⟨lw_p81, List.forall_mem_cons.mpr ⟨lw_p82, List.forall_mem_cons.mpr ⟨lw_p83, List.forall_mem_cons.mpr ⟨lw_p84, List.forall_mem_cons.mpr ⟨lw_p85, List.forall_mem_cons.mpr ⟨lw_p86, List.forall_mem_cons.mpr ⟨lw_p87, List.forall_mem_cons.mpr ⟨lw_p88, List.forall_mem_cons.mpr ⟨lw_p89, List.forall_mem_cons.mpr ⟨lw_p90, List.forall_mem_cons.mpr ⟨lw_p91, List.forall_mem_cons.mpr ⟨lw_p92, List.forall_mem_cons.mpr ⟨lw_p93, List.forall_mem_cons.mpr ⟨lw_p94, List.forall_mem_cons.mpr ⟨lw_p95, fun _ h => absurd h List.not_mem_nil⟩⟩⟩⟩⟩⟩⟩⟩⟩⟩⟩⟩⟩⟩⟩⟩
theorem lw_p96 : lw_okq (⟨"DotRunsModel", "readsStatement", "()V"⟩, 42) := ⟨⟨by decide +kernel, by decide +kernel⟩, lw_t9 (List.mem_of_getElem? (i := 143) rfl), lw_t11 (List.mem_of_getElem? (i := 157) rfl), lw_t11 (List.mem_of_getElem? (i := 158) rfl)⟩
theorem lw_p97 : lw_okq (⟨"DotRunsModel", "readsLine", "(I)V"⟩, 42) := ⟨⟨by decide +kernel, by decide +kernel⟩, lw_t9 (List.mem_of_getElem? (i := 143) rfl), lw_t11 (List.mem_of_getElem? (i := 161) rfl), lw_t11 (List.mem_of_getElem? (i := 162) rfl)⟩
theorem lw_p98 : lw_okq (⟨"DotRunsModel", "laysTold", "()V"⟩, 42) := ⟨⟨by decide +kernel, by decide +kernel⟩, lw_t9 (List.mem_of_getElem? (i := 143) rfl), lw_t11 (List.mem_of_getElem? (i := 165) rfl), lw_t11 (List.mem_of_getElem? (i := 166) rfl)⟩
theorem lw_p99 : lw_okq (⟨"DotRunsModel", "readsRow", "()V"⟩, 42) := ⟨⟨by decide +kernel, by decide +kernel⟩, lw_t9 (List.mem_of_getElem? (i := 143) rfl), lw_t11 (List.mem_of_getElem? (i := 169) rfl), lw_t11 (List.mem_of_getElem? (i := 170) rfl)⟩
theorem lw_p100 : lw_okq (⟨"DotRunsModel", "readsAlone", "()V"⟩, 42) := ⟨⟨by decide +kernel, by decide +kernel⟩, lw_t9 (List.mem_of_getElem? (i := 143) rfl), lw_t11 (List.mem_of_getElem? (i := 173) rfl), lw_t11 (List.mem_of_getElem? (i := 174) rfl)⟩
theorem lw_p101 : lw_okq (⟨"DotRunsModel", "readsAbove", "()V"⟩, 42) := ⟨⟨by decide +kernel, by decide +kernel⟩, lw_t9 (List.mem_of_getElem? (i := 143) rfl), lw_t11 (List.mem_of_getElem? (i := 177) rfl), lw_t11 (List.mem_of_getElem? (i := 178) rfl)⟩
theorem lw_p102 : lw_okq (⟨"DotRunsModel", "readsOne", "()V"⟩, 42) := ⟨⟨by decide +kernel, by decide +kernel⟩, lw_t9 (List.mem_of_getElem? (i := 143) rfl), lw_t11 (List.mem_of_getElem? (i := 181) rfl), lw_t11 (List.mem_of_getElem? (i := 182) rfl)⟩
theorem lw_p103 : lw_okq (⟨"DotRunsModel", "addsTold", "()V"⟩, 42) := ⟨⟨by decide +kernel, by decide +kernel⟩, lw_t9 (List.mem_of_getElem? (i := 143) rfl), lw_t11 (List.mem_of_getElem? (i := 185) rfl), lw_t11 (List.mem_of_getElem? (i := 186) rfl)⟩
theorem lw_p104 : lw_okq (⟨"DotRunsModel", "readsSetting", "()V"⟩, 42) := ⟨⟨by decide +kernel, by decide +kernel⟩, lw_t9 (List.mem_of_getElem? (i := 143) rfl), lw_t11 (List.mem_of_getElem? (i := 189) rfl), lw_t11 (List.mem_of_getElem? (i := 190) rfl)⟩
theorem lw_p105 : lw_okq (⟨"DotRunsModel", "readsLoss", "()V"⟩, 42) := ⟨⟨by decide +kernel, by decide +kernel⟩, lw_t9 (List.mem_of_getElem? (i := 143) rfl), lw_t11 (List.mem_of_getElem? (i := 193) rfl), lw_t11 (List.mem_of_getElem? (i := 194) rfl)⟩
theorem lw_p106 : lw_okq (⟨"DotRunsModel", "printsWord", "(I)V"⟩, 42) := ⟨⟨by decide +kernel, by decide +kernel⟩, lw_t9 (List.mem_of_getElem? (i := 143) rfl), lw_t11 (List.mem_of_getElem? (i := 209) rfl), lw_t11 (List.mem_of_getElem? (i := 210) rfl)⟩
theorem lw_p107 : lw_okq (⟨"DotRunsModel", "prints", "(I)V"⟩, 42) := ⟨⟨by decide +kernel, by decide +kernel⟩, lw_t9 (List.mem_of_getElem? (i := 143) rfl), lw_t11 (List.mem_of_getElem? (i := 213) rfl), lw_t11 (List.mem_of_getElem? (i := 214) rfl)⟩
theorem lw_p108 : lw_okq (⟨"DotRunsModel", "printsNumber", "(I)V"⟩, 42) := ⟨⟨by decide +kernel, by decide +kernel⟩, lw_t9 (List.mem_of_getElem? (i := 143) rfl), lw_t11 (List.mem_of_getElem? (i := 217) rfl), lw_t11 (List.mem_of_getElem? (i := 218) rfl)⟩
theorem lw_p109 : lw_okq (⟨"DotRunsModel", "printsMode", "(I)V"⟩, 42) := ⟨⟨by decide +kernel, by decide +kernel⟩, lw_t9 (List.mem_of_getElem? (i := 143) rfl), lw_t11 (List.mem_of_getElem? (i := 221) rfl), lw_t11 (List.mem_of_getElem? (i := 222) rfl)⟩
def lw_privs_7 : List (MethodName × Nat) := [(⟨"DotRunsModel", "readsStatement", "()V"⟩, 42), (⟨"DotRunsModel", "readsLine", "(I)V"⟩, 42), (⟨"DotRunsModel", "laysTold", "()V"⟩, 42), (⟨"DotRunsModel", "readsRow", "()V"⟩, 42), (⟨"DotRunsModel", "readsAlone", "()V"⟩, 42), (⟨"DotRunsModel", "readsAbove", "()V"⟩, 42), (⟨"DotRunsModel", "readsOne", "()V"⟩, 42), (⟨"DotRunsModel", "addsTold", "()V"⟩, 42), (⟨"DotRunsModel", "readsSetting", "()V"⟩, 42), (⟨"DotRunsModel", "readsLoss", "()V"⟩, 42), (⟨"DotRunsModel", "printsWord", "(I)V"⟩, 42), (⟨"DotRunsModel", "prints", "(I)V"⟩, 42), (⟨"DotRunsModel", "printsNumber", "(I)V"⟩, 42), (⟨"DotRunsModel", "printsMode", "(I)V"⟩, 42)]
theorem lw_r7 : ∀ q ∈ lw_privs_7, lw_okq q := List.forall_mem_cons.mpr ⟨lw_p96, List.forall_mem_cons.mpr ⟨lw_p97, List.forall_mem_cons.mpr ⟨lw_p98, List.forall_mem_cons.mpr ⟨lw_p99, List.forall_mem_cons.mpr ⟨lw_p100, List.forall_mem_cons.mpr ⟨lw_p101, List.forall_mem_cons.mpr ⟨lw_p102, List.forall_mem_cons.mpr ⟨lw_p103, List.forall_mem_cons.mpr ⟨lw_p104, List.forall_mem_cons.mpr ⟨lw_p105, List.forall_mem_cons.mpr ⟨lw_p106, List.forall_mem_cons.mpr ⟨lw_p107, List.forall_mem_cons.mpr ⟨lw_p108, List.forall_mem_cons.mpr ⟨lw_p109, fun _ h => absurd h List.not_mem_nil⟩⟩⟩⟩⟩⟩⟩⟩⟩⟩⟩⟩⟩⟩
def lw_privs : List (MethodName × Nat) := lw_privs_1 ++ (lw_privs_2 ++ (lw_privs_3 ++ (lw_privs_4 ++ (lw_privs_5 ++ (lw_privs_6 ++ (lw_privs_7))))))
def lw_tbl : List Cond := k2_sels lw_privs ++ tables_1
theorem lw_privs_ok : ∀ q ∈ lw_privs, lw_okq q := by
  show ∀ q ∈ lw_privs_1 ++ (lw_privs_2 ++ (lw_privs_3 ++ (lw_privs_4 ++ (lw_privs_5 ++ (lw_privs_6 ++ (lw_privs_7)))))), lw_okq q
  exact List.forall_mem_append.mpr ⟨lw_r1, List.forall_mem_append.mpr ⟨lw_r2, List.forall_mem_append.mpr ⟨lw_r3, List.forall_mem_append.mpr ⟨lw_r4, List.forall_mem_append.mpr ⟨lw_r5, List.forall_mem_append.mpr ⟨lw_r6, lw_r7⟩⟩⟩⟩⟩⟩
-- ===== ONE list of words for every method: the tables' words that hold all through a run =====
def lw_all : List Cond := lw_tbl.filter goodWord
/-- a word of the tables by its place: claim/WORDS.tsv -/
theorem lw_w {w : Cond} (i : Nat) (h : lw_tbl[i]? = some w) (g : goodWord w = true) : w ∈ lw_all := List.mem_filter.mpr ⟨List.mem_of_getElem? h, g⟩
theorem lw_all_tbl {w : Cond} (h : w ∈ lw_all) : w ∈ lw_tbl := (List.mem_filter.mp h).1
theorem lw_self : GoodIn lw_all lw_all := fun w h => ⟨h, good_of_word (List.mem_filter.mp h).2⟩
/-- a class's field words, by their places -/
theorem lw_in (ws : List Cond) (ps : List Nat) (hp : ws = ps.filterMap (fun i => lw_tbl[i]?)) (hg : ws.all goodWord = true) : ∀ w ∈ ws, w ∈ lw_all := by
  intro w h
  have h1 := List.all_eq_true.mp hg w h
  rw [hp] at h
  obtain ⟨i, -, hi⟩ := List.mem_filterMap.mp h
  exact lw_w i hi h1
/-- the words of a contract for the method y with code b, L locals, answer r -/
abbrev ws_ (y : MethodName) (b : ByteArray) (L : Nat) (r : Option FieldType) : List Cond := Cond.code y b L r :: lw_all
theorem lw_meth {y : MethodName} {b : ByteArray} {L : Nat} {r : Option FieldType} (h : Cond.code y b L r ∈ lw_all) : GoodIn lw_all (ws_ y b L r) := by
  intro w hw
  rcases List.mem_cons.mp hw with e | e
  · rw [e]
    exact lw_self _ h
  · exact lw_self _ e
theorem lw_app {a c : List Cond} (ha : ∀ w ∈ a, w ∈ lw_all) (hc : GoodIn lw_all c) : GoodIn lw_all (a ++ c) := by
  intro w hw
  rcases List.mem_append.mp hw with e | e
  · exact lw_self w (ha w e)
  · exact hc w e
/-- what a call through an object asks: cwV n hts (lw_V ..) -/
theorem lw_V {own : String} {idx : Nat} {C : String} {y : MethodName} {b : ByteArray} {L : Nat} {r : Option FieldType} (h1 : Cond.methodLink own idx y ∈ lw_all) (h2 : Cond.instanceMethod y ∈ lw_all) (h3 : Cond.selects C y y ∈ lw_all) (h4 : Cond.initialized C ∈ lw_all) (h5 : Cond.code y b L r ∈ lw_all) : GoodIn lw_all (wsV own idx C y (ws_ y b L r)) := by
  refine lw_app ?_ (lw_meth h5)
  intro w hw
  simp only [List.mem_cons, List.not_mem_nil, or_false] at hw
  rcases hw with e | e | e | e
  · rw [e]; exact h1
  · rw [e]; exact h2
  · rw [e]; exact h3
  · rw [e]; exact h4
/-- what a static call asks: va_cwS n hts (lw_S ..) -/
theorem lw_S {own : String} {idx : Nat} {y : MethodName} {b : ByteArray} {L : Nat} {r : Option FieldType} (h1 : Cond.methodLink own idx y ∈ lw_all) (h2 : Cond.static y ∈ lw_all) (h3 : Cond.initialized y.cls ∈ lw_all) (h4 : Cond.code y b L r ∈ lw_all) : GoodIn lw_all (va_wsS own idx y (ws_ y b L r)) := by
  refine lw_app ?_ (lw_meth h4)
  intro w hw
  simp only [List.mem_cons, List.not_mem_nil, or_false] at hw
  rcases hw with e | e | e
  · rw [e]; exact h1
  · rw [e]; exact h2
  · rw [e]; exact h3
/-- the words of a contract for a method WITH HANDLERS (hh: its table) -/
abbrev wsW_ (y : MethodName) (b : ByteArray) (L : Nat) (r : Option FieldType) (hh : List (Nat × Nat × Nat × Nat)) : List Cond := Cond.codeWith y b L r hh :: lw_all
theorem lw_methW {y : MethodName} {b : ByteArray} {L : Nat} {r : Option FieldType} {hh : List (Nat × Nat × Nat × Nat)} (h : Cond.codeWith y b L r hh ∈ lw_all) : GoodIn lw_all (wsW_ y b L r hh) := by
  intro w hw
  rcases List.mem_cons.mp hw with e | e
  · rw [e]
    exact lw_self _ h
  · exact lw_self _ e
/-- any list of words by their places (lw_in), good -/
theorem lw_good {ws : List Cond} (h : ∀ w ∈ ws, w ∈ lw_all) : GoodIn lw_all ws := fun w hw => lw_self w (h w hw)
/-- what a call of a method with handlers asks: vx_cwVW n hts (lw_VW ..), vx_cwSW n hts (lw_SW ..) -/
theorem lw_VW {own : String} {idx : Nat} {C : String} {y : MethodName} {b : ByteArray} {L : Nat} {r : Option FieldType} {hh : List (Nat × Nat × Nat × Nat)} (h1 : Cond.methodLink own idx y ∈ lw_all) (h2 : Cond.instanceMethod y ∈ lw_all) (h3 : Cond.selects C y y ∈ lw_all) (h4 : Cond.initialized C ∈ lw_all) (h5 : Cond.codeWith y b L r hh ∈ lw_all) : GoodIn lw_all (wsV own idx C y (wsW_ y b L r hh)) := by
  refine lw_app ?_ (lw_methW h5)
  intro w hw
  simp only [List.mem_cons, List.not_mem_nil, or_false] at hw
  rcases hw with e | e | e | e
  · rw [e]; exact h1
  · rw [e]; exact h2
  · rw [e]; exact h3
  · rw [e]; exact h4
theorem lw_SW {own : String} {idx : Nat} {y : MethodName} {b : ByteArray} {L : Nat} {r : Option FieldType} {hh : List (Nat × Nat × Nat × Nat)} (h1 : Cond.methodLink own idx y ∈ lw_all) (h2 : Cond.static y ∈ lw_all) (h3 : Cond.initialized y.cls ∈ lw_all) (h4 : Cond.codeWith y b L r hh ∈ lw_all) : GoodIn lw_all (va_wsS own idx y (wsW_ y b L r hh)) := by
  refine lw_app ?_ (lw_methW h4)
  intro w hw
  simp only [List.mem_cons, List.not_mem_nil, or_false] at hw
  rcases hw with e | e | e
  · rw [e]; exact h1
  · rw [e]; exact h2
  · rw [e]; exact h3
/-- a word by its place in its run of the tables -/
theorem lw_at {r : List Cond} (hr : ∀ w ∈ r, w ∈ lw_tbl) {w : Cond} (i : Nat) (h : r[i]? = some w) : w ∈ lw_tbl := hr w (List.mem_of_getElem? h)
theorem lw_g {w : Cond} (h : w ∈ lw_tbl) (g : goodWord w = true) : w ∈ lw_all := List.mem_filter.mpr ⟨h, g⟩
theorem lw_ms : ∀ w ∈ k2_sels lw_privs, w ∈ lw_tbl := fun w h => show w ∈ k2_sels lw_privs ++ tables_1 from List.mem_append_left _ h
theorem lw_m1 : ∀ w ∈ tables_1_1, w ∈ lw_tbl := fun w h => show w ∈ k2_sels lw_privs ++ tables_1 from List.mem_append_right (k2_sels lw_privs) (show w ∈ tables_1 from List.mem_append_left _ h)
theorem lw_m2 : ∀ w ∈ tables_1_2, w ∈ lw_tbl := fun w h => show w ∈ k2_sels lw_privs ++ tables_1 from List.mem_append_right (k2_sels lw_privs) (show w ∈ tables_1 from List.mem_append_right _ (List.mem_append_left _ h))
theorem lw_m3 : ∀ w ∈ tables_1_3, w ∈ lw_tbl := fun w h => show w ∈ k2_sels lw_privs ++ tables_1 from List.mem_append_right (k2_sels lw_privs) (show w ∈ tables_1 from List.mem_append_right _ (List.mem_append_right _ (List.mem_append_left _ h)))
theorem lw_m4 : ∀ w ∈ tables_1_4, w ∈ lw_tbl := fun w h => show w ∈ k2_sels lw_privs ++ tables_1 from List.mem_append_right (k2_sels lw_privs) (show w ∈ tables_1 from List.mem_append_right _ (List.mem_append_right _ (List.mem_append_right _ (List.mem_append_left _ h))))
theorem lw_m5 : ∀ w ∈ tables_1_5, w ∈ lw_tbl := fun w h => show w ∈ k2_sels lw_privs ++ tables_1 from List.mem_append_right (k2_sels lw_privs) (show w ∈ tables_1 from List.mem_append_right _ (List.mem_append_right _ (List.mem_append_right _ (List.mem_append_right _ (List.mem_append_left _ h)))))
theorem lw_m6 : ∀ w ∈ tables_1_6, w ∈ lw_tbl := fun w h => show w ∈ k2_sels lw_privs ++ tables_1 from List.mem_append_right (k2_sels lw_privs) (show w ∈ tables_1 from List.mem_append_right _ (List.mem_append_right _ (List.mem_append_right _ (List.mem_append_right _ (List.mem_append_right _ (List.mem_append_left _ h))))))
theorem lw_m7 : ∀ w ∈ tables_1_7, w ∈ lw_tbl := fun w h => show w ∈ k2_sels lw_privs ++ tables_1 from List.mem_append_right (k2_sels lw_privs) (show w ∈ tables_1 from List.mem_append_right _ (List.mem_append_right _ (List.mem_append_right _ (List.mem_append_right _ (List.mem_append_right _ (List.mem_append_right _ (List.mem_append_left _ h)))))))
theorem lw_m8 : ∀ w ∈ tables_1_8, w ∈ lw_tbl := fun w h => show w ∈ k2_sels lw_privs ++ tables_1 from List.mem_append_right (k2_sels lw_privs) (show w ∈ tables_1 from List.mem_append_right _ (List.mem_append_right _ (List.mem_append_right _ (List.mem_append_right _ (List.mem_append_right _ (List.mem_append_right _ (List.mem_append_right _ (List.mem_append_left _ h))))))))
theorem lw_m9 : ∀ w ∈ tables_1_9, w ∈ lw_tbl := fun w h => show w ∈ k2_sels lw_privs ++ tables_1 from List.mem_append_right (k2_sels lw_privs) (show w ∈ tables_1 from List.mem_append_right _ (List.mem_append_right _ (List.mem_append_right _ (List.mem_append_right _ (List.mem_append_right _ (List.mem_append_right _ (List.mem_append_right _ (List.mem_append_right _ (List.mem_append_left _ h)))))))))
theorem lw_m10 : ∀ w ∈ tables_1_10, w ∈ lw_tbl := fun w h => show w ∈ k2_sels lw_privs ++ tables_1 from List.mem_append_right (k2_sels lw_privs) (show w ∈ tables_1 from List.mem_append_right _ (List.mem_append_right _ (List.mem_append_right _ (List.mem_append_right _ (List.mem_append_right _ (List.mem_append_right _ (List.mem_append_right _ (List.mem_append_right _ (List.mem_append_right _ (List.mem_append_left _ h))))))))))
theorem lw_m11 : ∀ w ∈ tables_1_11, w ∈ lw_tbl := fun w h => show w ∈ k2_sels lw_privs ++ tables_1 from List.mem_append_right (k2_sels lw_privs) (show w ∈ tables_1 from List.mem_append_right _ (List.mem_append_right _ (List.mem_append_right _ (List.mem_append_right _ (List.mem_append_right _ (List.mem_append_right _ (List.mem_append_right _ (List.mem_append_right _ (List.mem_append_right _ (List.mem_append_right _ (List.mem_append_left _ h)))))))))))
theorem lw_m12 : ∀ w ∈ tables_1_12, w ∈ lw_tbl := fun w h => show w ∈ k2_sels lw_privs ++ tables_1 from List.mem_append_right (k2_sels lw_privs) (show w ∈ tables_1 from List.mem_append_right _ (List.mem_append_right _ (List.mem_append_right _ (List.mem_append_right _ (List.mem_append_right _ (List.mem_append_right _ (List.mem_append_right _ (List.mem_append_right _ (List.mem_append_right _ (List.mem_append_right _ (List.mem_append_right _ h)))))))))))
theorem qs0 : (Cond.selects "java/lang/Throwable" ⟨"java/lang/Throwable", "fillInStackTrace", "(I)Ljava/lang/Throwable;"⟩ ⟨"java/lang/Throwable", "fillInStackTrace", "(I)Ljava/lang/Throwable;"⟩) ∈ lw_all := lw_g (lw_at lw_ms 0 rfl) rfl
theorem qs1 : (Cond.selects "DotRuns" ⟨"DotRuns", "without", "(I)LDotRuns$Sending;"⟩ ⟨"DotRuns", "without", "(I)LDotRuns$Sending;"⟩) ∈ lw_all := lw_g (lw_at lw_ms 1 rfl) rfl
theorem qs2 : (Cond.selects "DotRuns$Sending" ⟨"DotRuns$Sending", "send", "(I)I"⟩ ⟨"DotRuns$Sending", "send", "(I)I"⟩) ∈ lw_all := lw_g (lw_at lw_ms 2 rfl) rfl
theorem qs3 : (Cond.selects "DotRuns$Runs" ⟨"DotRuns$Runs", "adds", "(I)V"⟩ ⟨"DotRuns$Runs", "adds", "(I)V"⟩) ∈ lw_all := lw_g (lw_at lw_ms 3 rfl) rfl
theorem qs4 : (Cond.selects "java/util/ArrayList" ⟨"java/util/ArrayList", "add", "(Ljava/lang/Object;[Ljava/lang/Object;I)V"⟩ ⟨"java/util/ArrayList", "add", "(Ljava/lang/Object;[Ljava/lang/Object;I)V"⟩) ∈ lw_all := lw_g (lw_at lw_ms 4 rfl) rfl
theorem qs5 : (Cond.selects "java/util/ArrayList" ⟨"java/util/ArrayList", "grow", "()[Ljava/lang/Object;"⟩ ⟨"java/util/ArrayList", "grow", "()[Ljava/lang/Object;"⟩) ∈ lw_all := lw_g (lw_at lw_ms 5 rfl) rfl
theorem qs6 : (Cond.selects "java/util/ArrayList" ⟨"java/util/ArrayList", "grow", "(I)[Ljava/lang/Object;"⟩ ⟨"java/util/ArrayList", "grow", "(I)[Ljava/lang/Object;"⟩) ∈ lw_all := lw_g (lw_at lw_ms 6 rfl) rfl
theorem qs7 : (Cond.selects "DotRuns$Sending" ⟨"DotRuns$Sending", "fails", "(II)I"⟩ ⟨"DotRuns$Sending", "fails", "(II)I"⟩) ∈ lw_all := lw_g (lw_at lw_ms 7 rfl) rfl
theorem qs8 : (Cond.selects "DotRuns$Sending" ⟨"DotRuns$Sending", "above", "(I)LDotRuns$Line;"⟩ ⟨"DotRuns$Sending", "above", "(I)LDotRuns$Line;"⟩) ∈ lw_all := lw_g (lw_at lw_ms 8 rfl) rfl
theorem qs9 : (Cond.selects "DotRuns" ⟨"DotRuns", "marks", "()I"⟩ ⟨"DotRuns", "marks", "()I"⟩) ∈ lw_all := lw_g (lw_at lw_ms 9 rfl) rfl
theorem qs10 : (Cond.selects "DotRuns$Reader" ⟨"DotRuns$Reader", "next", "()V"⟩ ⟨"DotRuns$Reader", "next", "()V"⟩) ∈ lw_all := lw_g (lw_at lw_ms 10 rfl) rfl
theorem qs11 : (Cond.selects "DotRuns$Reader" ⟨"DotRuns$Reader", "isAt", "(II)Z"⟩ ⟨"DotRuns$Reader", "isAt", "(II)Z"⟩) ∈ lw_all := lw_g (lw_at lw_ms 11 rfl) rfl
theorem qs12 : (Cond.selects "DotRuns$Reader" ⟨"DotRuns$Reader", "isDot", "()Z"⟩ ⟨"DotRuns$Reader", "isDot", "()Z"⟩) ∈ lw_all := lw_g (lw_at lw_ms 12 rfl) rfl
theorem qs13 : (Cond.selects "DotRuns$Reader" ⟨"DotRuns$Reader", "word", "()Ljava/lang/String;"⟩ ⟨"DotRuns$Reader", "word", "()Ljava/lang/String;"⟩) ∈ lw_all := lw_g (lw_at lw_ms 13 rfl) rfl
theorem qs14 : (Cond.selects "DotRuns$Reader" ⟨"DotRuns$Reader", "take", "(II)I"⟩ ⟨"DotRuns$Reader", "take", "(II)I"⟩) ∈ lw_all := lw_g (lw_at lw_ms 14 rfl) rfl
theorem qs15 : (Cond.selects "DotRuns$Reader" ⟨"DotRuns$Reader", "look", "(II)I"⟩ ⟨"DotRuns$Reader", "look", "(II)I"⟩) ∈ lw_all := lw_g (lw_at lw_ms 15 rfl) rfl
theorem qs16 : (Cond.selects "DotRuns$Reader" ⟨"DotRuns$Reader", "need", "(ZI)V"⟩ ⟨"DotRuns$Reader", "need", "(ZI)V"⟩) ∈ lw_all := lw_g (lw_at lw_ms 16 rfl) rfl
theorem qs17 : (Cond.selects "DotRuns$Reader" ⟨"DotRuns$Reader", "end", "(Z)V"⟩ ⟨"DotRuns$Reader", "end", "(Z)V"⟩) ∈ lw_all := lw_g (lw_at lw_ms 17 rfl) rfl
theorem qs18 : (Cond.selects "DotRuns$Reader" ⟨"DotRuns$Reader", "isSign", "(I)Z"⟩ ⟨"DotRuns$Reader", "isSign", "(I)Z"⟩) ∈ lw_all := lw_g (lw_at lw_ms 18 rfl) rfl
theorem qs19 : (Cond.selects "DotRuns$Reader" ⟨"DotRuns$Reader", "statement", "()V"⟩ ⟨"DotRuns$Reader", "statement", "()V"⟩) ∈ lw_all := lw_g (lw_at lw_ms 19 rfl) rfl
theorem qs20 : (Cond.selects "DotRuns$Reader" ⟨"DotRuns$Reader", "dots", "()V"⟩ ⟨"DotRuns$Reader", "dots", "()V"⟩) ∈ lw_all := lw_g (lw_at lw_ms 20 rfl) rfl
theorem qs21 : (Cond.selects "DotRuns$Reader" ⟨"DotRuns$Reader", "opens", "()V"⟩ ⟨"DotRuns$Reader", "opens", "()V"⟩) ∈ lw_all := lw_g (lw_at lw_ms 21 rfl) rfl
theorem qs22 : (Cond.selects "DotRuns$Reader" ⟨"DotRuns$Reader", "alone", "()V"⟩ ⟨"DotRuns$Reader", "alone", "()V"⟩) ∈ lw_all := lw_g (lw_at lw_ms 22 rfl) rfl
theorem qs23 : (Cond.selects "DotRuns$Reader" ⟨"DotRuns$Reader", "above", "()V"⟩ ⟨"DotRuns$Reader", "above", "()V"⟩) ∈ lw_all := lw_g (lw_at lw_ms 23 rfl) rfl
theorem qs24 : (Cond.selects "DotRuns$Reader" ⟨"DotRuns$Reader", "isMode", "()Z"⟩ ⟨"DotRuns$Reader", "isMode", "()Z"⟩) ∈ lw_all := lw_g (lw_at lw_ms 24 rfl) rfl
theorem qs25 : (Cond.selects "DotRuns$Reader" ⟨"DotRuns$Reader", "modeOf", "(Ljava/lang/String;)LDotRuns$Mode;"⟩ ⟨"DotRuns$Reader", "modeOf", "(Ljava/lang/String;)LDotRuns$Mode;"⟩) ∈ lw_all := lw_g (lw_at lw_ms 25 rfl) rfl
theorem qs26 : (Cond.selects "DotRuns$Reader" ⟨"DotRuns$Reader", "signed", "()I"⟩ ⟨"DotRuns$Reader", "signed", "()I"⟩) ∈ lw_all := lw_g (lw_at lw_ms 26 rfl) rfl
theorem qs27 : (Cond.selects "DotRuns$Reader" ⟨"DotRuns$Reader", "horizontal", "()LDotRuns$Mode;"⟩ ⟨"DotRuns$Reader", "horizontal", "()LDotRuns$Mode;"⟩) ∈ lw_all := lw_g (lw_at lw_ms 27 rfl) rfl
theorem qs28 : (Cond.selects "DotRuns$Reader" ⟨"DotRuns$Reader", "setting", "()V"⟩ ⟨"DotRuns$Reader", "setting", "()V"⟩) ∈ lw_all := lw_g (lw_at lw_ms 28 rfl) rfl
theorem qs29 : (Cond.selects "DotRuns$Reader" ⟨"DotRuns$Reader", "loss", "()V"⟩ ⟨"DotRuns$Reader", "loss", "()V"⟩) ∈ lw_all := lw_g (lw_at lw_ms 29 rfl) rfl
theorem qs30 : (Cond.selects "DotRuns" ⟨"DotRuns", "sum", "(LDotRuns$Asked;)I"⟩ ⟨"DotRuns", "sum", "(LDotRuns$Asked;)I"⟩) ∈ lw_all := lw_g (lw_at lw_ms 30 rfl) rfl
theorem qs31 : (Cond.selects "DotRuns" ⟨"DotRuns", "isLine", "(I)Z"⟩ ⟨"DotRuns", "isLine", "(I)Z"⟩) ∈ lw_all := lw_g (lw_at lw_ms 31 rfl) rfl
theorem qs32 : (Cond.selects "DotRuns" ⟨"DotRuns", "lineAt", "(I)LDotRuns$Line;"⟩ ⟨"DotRuns", "lineAt", "(I)LDotRuns$Line;"⟩) ∈ lw_all := lw_g (lw_at lw_ms 32 rfl) rfl
theorem qs33 : (Cond.selects "DotRuns" ⟨"DotRuns", "overRuns", "(ILDotRuns$Taking;)I"⟩ ⟨"DotRuns", "overRuns", "(ILDotRuns$Taking;)I"⟩) ∈ lw_all := lw_g (lw_at lw_ms 33 rfl) rfl
theorem qs34 : (Cond.selects "DotRuns" ⟨"DotRuns", "edited", "()LDotRuns$Page;"⟩ ⟨"DotRuns", "edited", "()LDotRuns$Page;"⟩) ∈ lw_all := lw_g (lw_at lw_ms 34 rfl) rfl
theorem qs35 : (Cond.selects "java/util/ArrayDeque" ⟨"java/util/ArrayDeque", "grow", "(I)V"⟩ ⟨"java/util/ArrayDeque", "grow", "(I)V"⟩) ∈ lw_all := lw_g (lw_at lw_ms 35 rfl) rfl
theorem qs36 : (Cond.selects "java/util/ArrayDeque" ⟨"java/util/ArrayDeque", "newCapacity", "(II)I"⟩ ⟨"java/util/ArrayDeque", "newCapacity", "(II)I"⟩) ∈ lw_all := lw_g (lw_at lw_ms 36 rfl) rfl
theorem qs37 : (Cond.selects "DotRuns" ⟨"DotRuns", "isPart", "(II)Z"⟩ ⟨"DotRuns", "isPart", "(II)Z"⟩) ∈ lw_all := lw_g (lw_at lw_ms 37 rfl) rfl
theorem qs38 : (Cond.selects "java/util/ArrayList" ⟨"java/util/ArrayList", "rangeCheckForAdd", "(I)V"⟩ ⟨"java/util/ArrayList", "rangeCheckForAdd", "(I)V"⟩) ∈ lw_all := lw_g (lw_at lw_ms 38 rfl) rfl
theorem qs39 : (Cond.selects "java/util/ArrayList" ⟨"java/util/ArrayList", "outOfBoundsMsg", "(I)Ljava/lang/String;"⟩ ⟨"java/util/ArrayList", "outOfBoundsMsg", "(I)Ljava/lang/String;"⟩) ∈ lw_all := lw_g (lw_at lw_ms 39 rfl) rfl
theorem qs40 : (Cond.selects "java/util/ArrayList" ⟨"java/util/ArrayList", "fastRemove", "([Ljava/lang/Object;I)V"⟩ ⟨"java/util/ArrayList", "fastRemove", "([Ljava/lang/Object;I)V"⟩) ∈ lw_all := lw_g (lw_at lw_ms 40 rfl) rfl
theorem qs41 : (Cond.selects "DotRuns" ⟨"DotRuns", "tellMode", "(LDotRuns$Mode;)V"⟩ ⟨"DotRuns", "tellMode", "(LDotRuns$Mode;)V"⟩) ∈ lw_all := lw_g (lw_at lw_ms 41 rfl) rfl
theorem qs42 : (Cond.selects "DotRuns" ⟨"DotRuns", "tell", "(Ljava/lang/CharSequence;)V"⟩ ⟨"DotRuns", "tell", "(Ljava/lang/CharSequence;)V"⟩) ∈ lw_all := lw_g (lw_at lw_ms 42 rfl) rfl
theorem qs43 : (Cond.selects "DotRunsModel" ⟨"DotRunsModel", "begins", "(I)V"⟩ ⟨"DotRunsModel", "begins", "(I)V"⟩) ∈ lw_all := lw_g (lw_at lw_ms 43 rfl) rfl
theorem qs44 : (Cond.selects "DotRunsModel" ⟨"DotRunsModel", "sumOf", "(I)I"⟩ ⟨"DotRunsModel", "sumOf", "(I)I"⟩) ∈ lw_all := lw_g (lw_at lw_ms 44 rfl) rfl
theorem qs45 : (Cond.selects "DotRunsModel" ⟨"DotRunsModel", "blacks", "(I)I"⟩ ⟨"DotRunsModel", "blacks", "(I)I"⟩) ∈ lw_all := lw_g (lw_at lw_ms 45 rfl) rfl
theorem qs46 : (Cond.selects "DotRunsModel" ⟨"DotRunsModel", "changes", "(I)I"⟩ ⟨"DotRunsModel", "changes", "(I)I"⟩) ∈ lw_all := lw_g (lw_at lw_ms 46 rfl) rfl
theorem qs47 : (Cond.selects "DotRunsModel" ⟨"DotRunsModel", "ahead", "(II)I"⟩ ⟨"DotRunsModel", "ahead", "(II)I"⟩) ∈ lw_all := lw_g (lw_at lw_ms 47 rfl) rfl
theorem qs48 : (Cond.selects "DotRunsModel" ⟨"DotRunsModel", "isMark", "(I)Z"⟩ ⟨"DotRunsModel", "isMark", "(I)Z"⟩) ∈ lw_all := lw_g (lw_at lw_ms 48 rfl) rfl
theorem qs49 : (Cond.selects "DotRunsModel" ⟨"DotRunsModel", "codesLine", "(I)V"⟩ ⟨"DotRunsModel", "codesLine", "(I)V"⟩) ∈ lw_all := lw_g (lw_at lw_ms 49 rfl) rfl
theorem qs50 : (Cond.selects "DotRunsModel" ⟨"DotRunsModel", "laysLine", "(I)V"⟩ ⟨"DotRunsModel", "laysLine", "(I)V"⟩) ∈ lw_all := lw_g (lw_at lw_ms 50 rfl) rfl
theorem qs51 : (Cond.selects "DotRunsModel" ⟨"DotRunsModel", "laysUpper", "([II)V"⟩ ⟨"DotRunsModel", "laysUpper", "([II)V"⟩) ∈ lw_all := lw_g (lw_at lw_ms 51 rfl) rfl
theorem qs52 : (Cond.selects "DotRunsModel" ⟨"DotRunsModel", "laysLower", "([II)V"⟩ ⟨"DotRunsModel", "laysLower", "([II)V"⟩) ∈ lw_all := lw_g (lw_at lw_ms 52 rfl) rfl
theorem qs53 : (Cond.selects "DotRunsModel" ⟨"DotRunsModel", "codes", "()V"⟩ ⟨"DotRunsModel", "codes", "()V"⟩) ∈ lw_all := lw_g (lw_at lw_ms 53 rfl) rfl
theorem qs54 : (Cond.selects "DotRunsModel" ⟨"DotRunsModel", "dotBehind", "(II)I"⟩ ⟨"DotRunsModel", "dotBehind", "(II)I"⟩) ∈ lw_all := lw_g (lw_at lw_ms 54 rfl) rfl
theorem qs55 : (Cond.selects "DotRunsModel" ⟨"DotRunsModel", "changeBehind", "(II)I"⟩ ⟨"DotRunsModel", "changeBehind", "(II)I"⟩) ∈ lw_all := lw_g (lw_at lw_ms 55 rfl) rfl
theorem qs56 : (Cond.selects "DotRunsModel" ⟨"DotRunsModel", "isChange", "(I)Z"⟩ ⟨"DotRunsModel", "isChange", "(I)Z"⟩) ∈ lw_all := lw_g (lw_at lw_ms 56 rfl) rfl
theorem qs57 : (Cond.selects "DotRunsModel" ⟨"DotRunsModel", "adds", "(IIII)V"⟩ ⟨"DotRunsModel", "adds", "(IIII)V"⟩) ∈ lw_all := lw_g (lw_at lw_ms 57 rfl) rfl
theorem qs58 : (Cond.selects "DotRunsModel" ⟨"DotRunsModel", "codesAlone", "()V"⟩ ⟨"DotRunsModel", "codesAlone", "()V"⟩) ∈ lw_all := lw_g (lw_at lw_ms 58 rfl) rfl
theorem qs59 : (Cond.selects "DotRunsModel" ⟨"DotRunsModel", "aloneBits", "()I"⟩ ⟨"DotRunsModel", "aloneBits", "()I"⟩) ∈ lw_all := lw_g (lw_at lw_ms 59 rfl) rfl
theorem qs60 : (Cond.selects "DotRunsModel" ⟨"DotRunsModel", "codeBits", "()I"⟩ ⟨"DotRunsModel", "codeBits", "()I"⟩) ∈ lw_all := lw_g (lw_at lw_ms 60 rfl) rfl
theorem qs61 : (Cond.selects "DotRunsModel" ⟨"DotRunsModel", "differs", "(II)I"⟩ ⟨"DotRunsModel", "differs", "(II)I"⟩) ∈ lw_all := lw_g (lw_at lw_ms 61 rfl) rfl
theorem qs62 : (Cond.selects "DotRunsModel" ⟨"DotRunsModel", "isDot", "(II)Z"⟩ ⟨"DotRunsModel", "isDot", "(II)Z"⟩) ∈ lw_all := lw_g (lw_at lw_ms 62 rfl) rfl
theorem qs63 : (Cond.selects "DotRunsModel" ⟨"DotRunsModel", "isLine", "(I)Z"⟩ ⟨"DotRunsModel", "isLine", "(I)Z"⟩) ∈ lw_all := lw_g (lw_at lw_ms 63 rfl) rfl
theorem qs64 : (Cond.selects "DotRunsModel" ⟨"DotRunsModel", "sentBits", "(I)I"⟩ ⟨"DotRunsModel", "sentBits", "(I)I"⟩) ∈ lw_all := lw_g (lw_at lw_ms 64 rfl) rfl
theorem qs65 : (Cond.selects "DotRunsModel" ⟨"DotRunsModel", "markUpTo", "(I)I"⟩ ⟨"DotRunsModel", "markUpTo", "(I)I"⟩) ∈ lw_all := lw_g (lw_at lw_ms 65 rfl) rfl
theorem qs66 : (Cond.selects "DotRunsModel" ⟨"DotRunsModel", "modesOf", "(I)I"⟩ ⟨"DotRunsModel", "modesOf", "(I)I"⟩) ∈ lw_all := lw_g (lw_at lw_ms 66 rfl) rfl
theorem qs67 : (Cond.selects "DotRunsModel" ⟨"DotRunsModel", "rowFrom", "(III)I"⟩ ⟨"DotRunsModel", "rowFrom", "(III)I"⟩) ∈ lw_all := lw_g (lw_at lw_ms 67 rfl) rfl
theorem qs68 : (Cond.selects "DotRunsModel" ⟨"DotRunsModel", "beginsRow", "(III)Z"⟩ ⟨"DotRunsModel", "beginsRow", "(III)Z"⟩) ∈ lw_all := lw_g (lw_at lw_ms 68 rfl) rfl
theorem qs69 : (Cond.selects "DotRunsModel" ⟨"DotRunsModel", "readsCode", "()Z"⟩ ⟨"DotRunsModel", "readsCode", "()Z"⟩) ∈ lw_all := lw_g (lw_at lw_ms 69 rfl) rfl
theorem qs70 : (Cond.selects "DotRunsModel" ⟨"DotRunsModel", "startsReading", "()V"⟩ ⟨"DotRunsModel", "startsReading", "()V"⟩) ∈ lw_all := lw_g (lw_at lw_ms 70 rfl) rfl
theorem qs71 : (Cond.selects "DotRunsModel" ⟨"DotRunsModel", "readsMode", "(III)Z"⟩ ⟨"DotRunsModel", "readsMode", "(III)Z"⟩) ∈ lw_all := lw_g (lw_at lw_ms 71 rfl) rfl
theorem qs72 : (Cond.selects "DotRunsModel" ⟨"DotRunsModel", "paints", "(III)V"⟩ ⟨"DotRunsModel", "paints", "(III)V"⟩) ∈ lw_all := lw_g (lw_at lw_ms 72 rfl) rfl
theorem qs73 : (Cond.selects "DotRunsModel" ⟨"DotRunsModel", "keeps", "()V"⟩ ⟨"DotRunsModel", "keeps", "()V"⟩) ∈ lw_all := lw_g (lw_at lw_ms 73 rfl) rfl
theorem qs74 : (Cond.selects "DotRunsModel" ⟨"DotRunsModel", "isPart", "(II)Z"⟩ ⟨"DotRunsModel", "isPart", "(II)Z"⟩) ∈ lw_all := lw_g (lw_at lw_ms 74 rfl) rfl
theorem qs75 : (Cond.selects "DotRunsModel" ⟨"DotRunsModel", "clearsLine", "(I)V"⟩ ⟨"DotRunsModel", "clearsLine", "(I)V"⟩) ∈ lw_all := lw_g (lw_at lw_ms 75 rfl) rfl
theorem qs76 : (Cond.selects "DotRunsModel" ⟨"DotRunsModel", "paintsLine", "(IIII)I"⟩ ⟨"DotRunsModel", "paintsLine", "(IIII)I"⟩) ∈ lw_all := lw_g (lw_at lw_ms 76 rfl) rfl
theorem qs77 : (Cond.selects "DotRunsModel" ⟨"DotRunsModel", "movesLine", "(II)V"⟩ ⟨"DotRunsModel", "movesLine", "(II)V"⟩) ∈ lw_all := lw_g (lw_at lw_ms 77 rfl) rfl
theorem qs78 : (Cond.selects "DotRunsModel" ⟨"DotRunsModel", "sendsPage", "()V"⟩ ⟨"DotRunsModel", "sendsPage", "()V"⟩) ∈ lw_all := lw_g (lw_at lw_ms 78 rfl) rfl
theorem qs79 : (Cond.selects "DotRunsModel" ⟨"DotRunsModel", "laysLosses", "()V"⟩ ⟨"DotRunsModel", "laysLosses", "()V"⟩) ∈ lw_all := lw_g (lw_at lw_ms 79 rfl) rfl
theorem qs80 : (Cond.selects "DotRunsModel" ⟨"DotRunsModel", "sendsAll", "()V"⟩ ⟨"DotRunsModel", "sendsAll", "()V"⟩) ∈ lw_all := lw_g (lw_at lw_ms 80 rfl) rfl
theorem qs81 : (Cond.selects "DotRunsModel" ⟨"DotRunsModel", "sends", "(I)I"⟩ ⟨"DotRunsModel", "sends", "(I)I"⟩) ∈ lw_all := lw_g (lw_at lw_ms 81 rfl) rfl
theorem qs82 : (Cond.selects "DotRunsModel" ⟨"DotRunsModel", "isRead", "(I)Z"⟩ ⟨"DotRunsModel", "isRead", "(I)Z"⟩) ∈ lw_all := lw_g (lw_at lw_ms 82 rfl) rfl
theorem qs83 : (Cond.selects "DotRunsModel" ⟨"DotRunsModel", "wrongIn", "(I)I"⟩ ⟨"DotRunsModel", "wrongIn", "(I)I"⟩) ∈ lw_all := lw_g (lw_at lw_ms 83 rfl) rfl
theorem qs84 : (Cond.selects "DotRunsModel" ⟨"DotRunsModel", "fills", "(II)V"⟩ ⟨"DotRunsModel", "fills", "(II)V"⟩) ∈ lw_all := lw_g (lw_at lw_ms 84 rfl) rfl
theorem qs85 : (Cond.selects "DotRunsModel" ⟨"DotRunsModel", "wrongDots", "()I"⟩ ⟨"DotRunsModel", "wrongDots", "()I"⟩) ∈ lw_all := lw_g (lw_at lw_ms 85 rfl) rfl
theorem qs86 : (Cond.selects "DotRunsModel" ⟨"DotRunsModel", "statesOf", "(I)I"⟩ ⟨"DotRunsModel", "statesOf", "(I)I"⟩) ∈ lw_all := lw_g (lw_at lw_ms 86 rfl) rfl
theorem qs87 : (Cond.selects "DotRunsModel" ⟨"DotRunsModel", "sendsHarmed", "(I)V"⟩ ⟨"DotRunsModel", "sendsHarmed", "(I)V"⟩) ∈ lw_all := lw_g (lw_at lw_ms 87 rfl) rfl
theorem qs88 : (Cond.selects "DotRunsModel" ⟨"DotRunsModel", "harmOf", "(I)I"⟩ ⟨"DotRunsModel", "harmOf", "(I)I"⟩) ∈ lw_all := lw_g (lw_at lw_ms 88 rfl) rfl
theorem qs89 : (Cond.selects "DotRunsModel" ⟨"DotRunsModel", "advances", "()V"⟩ ⟨"DotRunsModel", "advances", "()V"⟩) ∈ lw_all := lw_g (lw_at lw_ms 89 rfl) rfl
theorem qs90 : (Cond.selects "DotRunsModel" ⟨"DotRunsModel", "see", "()I"⟩ ⟨"DotRunsModel", "see", "()I"⟩) ∈ lw_all := lw_g (lw_at lw_ms 90 rfl) rfl
theorem qs91 : (Cond.selects "DotRunsModel" ⟨"DotRunsModel", "wordHere", "()I"⟩ ⟨"DotRunsModel", "wordHere", "()I"⟩) ∈ lw_all := lw_g (lw_at lw_ms 91 rfl) rfl
theorem qs92 : (Cond.selects "DotRunsModel" ⟨"DotRunsModel", "goesOn", "()V"⟩ ⟨"DotRunsModel", "goesOn", "()V"⟩) ∈ lw_all := lw_g (lw_at lw_ms 92 rfl) rfl
theorem qs93 : (Cond.selects "DotRunsModel" ⟨"DotRunsModel", "reads", "(II)I"⟩ ⟨"DotRunsModel", "reads", "(II)I"⟩) ∈ lw_all := lw_g (lw_at lw_ms 93 rfl) rfl
theorem qs94 : (Cond.selects "DotRunsModel" ⟨"DotRunsModel", "looks", "(II)I"⟩ ⟨"DotRunsModel", "looks", "(II)I"⟩) ∈ lw_all := lw_g (lw_at lw_ms 94 rfl) rfl
theorem qs95 : (Cond.selects "DotRunsModel" ⟨"DotRunsModel", "must", "(ZI)V"⟩ ⟨"DotRunsModel", "must", "(ZI)V"⟩) ∈ lw_all := lw_g (lw_at lw_ms 95 rfl) rfl
theorem qs96 : (Cond.selects "DotRunsModel" ⟨"DotRunsModel", "readsStatement", "()V"⟩ ⟨"DotRunsModel", "readsStatement", "()V"⟩) ∈ lw_all := lw_g (lw_at lw_ms 96 rfl) rfl
theorem qs97 : (Cond.selects "DotRunsModel" ⟨"DotRunsModel", "readsLine", "(I)V"⟩ ⟨"DotRunsModel", "readsLine", "(I)V"⟩) ∈ lw_all := lw_g (lw_at lw_ms 97 rfl) rfl
theorem qs98 : (Cond.selects "DotRunsModel" ⟨"DotRunsModel", "laysTold", "()V"⟩ ⟨"DotRunsModel", "laysTold", "()V"⟩) ∈ lw_all := lw_g (lw_at lw_ms 98 rfl) rfl
theorem qs99 : (Cond.selects "DotRunsModel" ⟨"DotRunsModel", "readsRow", "()V"⟩ ⟨"DotRunsModel", "readsRow", "()V"⟩) ∈ lw_all := lw_g (lw_at lw_ms 99 rfl) rfl
theorem qs100 : (Cond.selects "DotRunsModel" ⟨"DotRunsModel", "readsAlone", "()V"⟩ ⟨"DotRunsModel", "readsAlone", "()V"⟩) ∈ lw_all := lw_g (lw_at lw_ms 100 rfl) rfl
theorem qs101 : (Cond.selects "DotRunsModel" ⟨"DotRunsModel", "readsAbove", "()V"⟩ ⟨"DotRunsModel", "readsAbove", "()V"⟩) ∈ lw_all := lw_g (lw_at lw_ms 101 rfl) rfl
theorem qs102 : (Cond.selects "DotRunsModel" ⟨"DotRunsModel", "readsOne", "()V"⟩ ⟨"DotRunsModel", "readsOne", "()V"⟩) ∈ lw_all := lw_g (lw_at lw_ms 102 rfl) rfl
theorem qs103 : (Cond.selects "DotRunsModel" ⟨"DotRunsModel", "addsTold", "()V"⟩ ⟨"DotRunsModel", "addsTold", "()V"⟩) ∈ lw_all := lw_g (lw_at lw_ms 103 rfl) rfl
theorem qs104 : (Cond.selects "DotRunsModel" ⟨"DotRunsModel", "readsSetting", "()V"⟩ ⟨"DotRunsModel", "readsSetting", "()V"⟩) ∈ lw_all := lw_g (lw_at lw_ms 104 rfl) rfl
theorem qs105 : (Cond.selects "DotRunsModel" ⟨"DotRunsModel", "readsLoss", "()V"⟩ ⟨"DotRunsModel", "readsLoss", "()V"⟩) ∈ lw_all := lw_g (lw_at lw_ms 105 rfl) rfl
theorem qs106 : (Cond.selects "DotRunsModel" ⟨"DotRunsModel", "printsWord", "(I)V"⟩ ⟨"DotRunsModel", "printsWord", "(I)V"⟩) ∈ lw_all := lw_g (lw_at lw_ms 106 rfl) rfl
theorem qs107 : (Cond.selects "DotRunsModel" ⟨"DotRunsModel", "prints", "(I)V"⟩ ⟨"DotRunsModel", "prints", "(I)V"⟩) ∈ lw_all := lw_g (lw_at lw_ms 107 rfl) rfl
theorem qs108 : (Cond.selects "DotRunsModel" ⟨"DotRunsModel", "printsNumber", "(I)V"⟩ ⟨"DotRunsModel", "printsNumber", "(I)V"⟩) ∈ lw_all := lw_g (lw_at lw_ms 108 rfl) rfl
theorem qs109 : (Cond.selects "DotRunsModel" ⟨"DotRunsModel", "printsMode", "(I)V"⟩ ⟨"DotRunsModel", "printsMode", "(I)V"⟩) ∈ lw_all := lw_g (lw_at lw_ms 109 rfl) rfl
