-- ===== PART A: goes FIRST, ahead of the names: the tables' words, and 'selects' of the private methods out of them =====
/-- a private method of a class that the tables say can be made, by its rows of tables_1 -/
def lw_okq (q : MethodName × Nat) : Prop := (q.1.cls ≠ "java/lang/invoke/MethodHandle" ∧ q.1.cls ≠ "java/lang/invoke/VarHandle") ∧ Cond.instantiable q.1.cls q.2 ∈ tables_1 ∧ Cond.privateMethod q.1 ∈ tables_1 ∧ Cond.instanceMethod q.1 ∈ tables_1
set_option maxRecDepth 100000
theorem lw_t1 {w : Cond} (h : w ∈ tables_1_1) : w ∈ tables_1 := List.mem_append_left _ h
theorem lw_t2 {w : Cond} (h : w ∈ tables_1_2) : w ∈ tables_1 := List.mem_append_right _ (List.mem_append_left _ h)
theorem lw_t3 {w : Cond} (h : w ∈ tables_1_3) : w ∈ tables_1 := List.mem_append_right _ (List.mem_append_right _ (List.mem_append_left _ h))
theorem lw_t4 {w : Cond} (h : w ∈ tables_1_4) : w ∈ tables_1 := List.mem_append_right _ (List.mem_append_right _ (List.mem_append_right _ (List.mem_append_left _ h)))
theorem lw_t5 {w : Cond} (h : w ∈ tables_1_5) : w ∈ tables_1 := List.mem_append_right _ (List.mem_append_right _ (List.mem_append_right _ (List.mem_append_right _ (List.mem_append_left _ h))))
theorem lw_t6 {w : Cond} (h : w ∈ tables_1_6) : w ∈ tables_1 := List.mem_append_right _ (List.mem_append_right _ (List.mem_append_right _ (List.mem_append_right _ (List.mem_append_right _ (List.mem_append_left _ h)))))
theorem lw_t7 {w : Cond} (h : w ∈ tables_1_7) : w ∈ tables_1 := List.mem_append_right _ (List.mem_append_right _ (List.mem_append_right _ (List.mem_append_right _ (List.mem_append_right _ (List.mem_append_right _ (List.mem_append_left _ h))))))
theorem lw_t8 {w : Cond} (h : w ∈ tables_1_8) : w ∈ tables_1 := List.mem_append_right _ (List.mem_append_right _ (List.mem_append_right _ (List.mem_append_right _ (List.mem_append_right _ (List.mem_append_right _ (List.mem_append_right _ (List.mem_append_left _ h)))))))
theorem lw_t9 {w : Cond} (h : w ∈ tables_1_9) : w ∈ tables_1 := List.mem_append_right _ (List.mem_append_right _ (List.mem_append_right _ (List.mem_append_right _ (List.mem_append_right _ (List.mem_append_right _ (List.mem_append_right _ (List.mem_append_right _ h)))))))
theorem lw_p0 : lw_okq (⟨"FirstIn", "feeds", "(I)V"⟩, 14) := ⟨⟨by decide +kernel, by decide +kernel⟩, lw_t1 (List.mem_of_getElem? (i := 44) rfl), lw_t1 (List.mem_of_getElem? (i := 160) rfl), lw_t1 (List.mem_of_getElem? (i := 161) rfl)⟩
theorem lw_p1 : lw_okq (⟨"FirstIn$Reader", "next", "()V"⟩, 7) := ⟨⟨by decide +kernel, by decide +kernel⟩, lw_t1 (List.mem_of_getElem? (i := 52) rfl), lw_t1 (List.mem_of_getElem? (i := 184) rfl), lw_t1 (List.mem_of_getElem? (i := 185) rfl)⟩
theorem lw_p2 : lw_okq (⟨"FirstIn$Reader", "wrong", "()LFirstIn$Fault;"⟩, 7) := ⟨⟨by decide +kernel, by decide +kernel⟩, lw_t1 (List.mem_of_getElem? (i := 52) rfl), lw_t1 (List.mem_of_getElem? (i := 194) rfl), lw_t1 (List.mem_of_getElem? (i := 195) rfl)⟩
theorem lw_p3 : lw_okq (⟨"java/lang/Throwable", "fillInStackTrace", "(I)Ljava/lang/Throwable;"⟩, 6) := ⟨⟨by decide +kernel, by decide +kernel⟩, lw_t1 (List.mem_of_getElem? (i := 234) rfl), lw_t1 (List.mem_of_getElem? (i := 232) rfl), lw_t1 (List.mem_of_getElem? (i := 233) rfl)⟩
theorem lw_p4 : lw_okq (⟨"FirstIn$Reader", "line", "()V"⟩, 7) := ⟨⟨by decide +kernel, by decide +kernel⟩, lw_t1 (List.mem_of_getElem? (i := 52) rfl), lw_t2 (List.mem_of_getElem? (i := 26) rfl), lw_t2 (List.mem_of_getElem? (i := 27) rfl)⟩
theorem lw_p5 : lw_okq (⟨"FirstIn$Reader", "word", "()I"⟩, 7) := ⟨⟨by decide +kernel, by decide +kernel⟩, lw_t1 (List.mem_of_getElem? (i := 52) rfl), lw_t2 (List.mem_of_getElem? (i := 30) rfl), lw_t2 (List.mem_of_getElem? (i := 31) rfl)⟩
theorem lw_p6 : lw_okq (⟨"FirstIn$Reader", "isWord", "()Z"⟩, 7) := ⟨⟨by decide +kernel, by decide +kernel⟩, lw_t1 (List.mem_of_getElem? (i := 52) rfl), lw_t2 (List.mem_of_getElem? (i := 45) rfl), lw_t2 (List.mem_of_getElem? (i := 46) rfl)⟩
theorem lw_p7 : lw_okq (⟨"FirstIn$Reader", "isOver", "()Z"⟩, 7) := ⟨⟨by decide +kernel, by decide +kernel⟩, lw_t1 (List.mem_of_getElem? (i := 52) rfl), lw_t2 (List.mem_of_getElem? (i := 49) rfl), lw_t2 (List.mem_of_getElem? (i := 50) rfl)⟩
theorem lw_p8 : lw_okq (⟨"FirstIn$Reader", "newName", "()[B"⟩, 7) := ⟨⟨by decide +kernel, by decide +kernel⟩, lw_t1 (List.mem_of_getElem? (i := 52) rfl), lw_t2 (List.mem_of_getElem? (i := 153) rfl), lw_t2 (List.mem_of_getElem? (i := 154) rfl)⟩
theorem lw_p9 : lw_okq (⟨"FirstIn$Reader", "isName", "()Z"⟩, 7) := ⟨⟨by decide +kernel, by decide +kernel⟩, lw_t1 (List.mem_of_getElem? (i := 52) rfl), lw_t2 (List.mem_of_getElem? (i := 157) rfl), lw_t2 (List.mem_of_getElem? (i := 158) rfl)⟩
theorem lw_p10 : lw_okq (⟨"FirstIn$Reader", "guestHere", "()LFirstIn$Guest;"⟩, 7) := ⟨⟨by decide +kernel, by decide +kernel⟩, lw_t1 (List.mem_of_getElem? (i := 52) rfl), lw_t2 (List.mem_of_getElem? (i := 161) rfl), lw_t2 (List.mem_of_getElem? (i := 162) rfl)⟩
theorem lw_p11 : lw_okq (⟨"FirstIn$Reader", "markHere", "()LFirstIn$Mark;"⟩, 7) := ⟨⟨by decide +kernel, by decide +kernel⟩, lw_t1 (List.mem_of_getElem? (i := 52) rfl), lw_t2 (List.mem_of_getElem? (i := 183) rfl), lw_t2 (List.mem_of_getElem? (i := 184) rfl)⟩
theorem lw_p12 : lw_okq (⟨"java/util/ArrayList", "add", "(Ljava/lang/Object;[Ljava/lang/Object;I)V"⟩, 3) := ⟨⟨by decide +kernel, by decide +kernel⟩, lw_t1 (List.mem_of_getElem? (i := 58) rfl), lw_t3 (List.mem_of_getElem? (i := 0) rfl), lw_t3 (List.mem_of_getElem? (i := 1) rfl)⟩
theorem lw_p13 : lw_okq (⟨"java/util/ArrayList", "grow", "()[Ljava/lang/Object;"⟩, 3) := ⟨⟨by decide +kernel, by decide +kernel⟩, lw_t1 (List.mem_of_getElem? (i := 58) rfl), lw_t3 (List.mem_of_getElem? (i := 4) rfl), lw_t3 (List.mem_of_getElem? (i := 5) rfl)⟩
theorem lw_p14 : lw_okq (⟨"java/util/ArrayList", "grow", "(I)[Ljava/lang/Object;"⟩, 3) := ⟨⟨by decide +kernel, by decide +kernel⟩, lw_t1 (List.mem_of_getElem? (i := 58) rfl), lw_t3 (List.mem_of_getElem? (i := 8) rfl), lw_t3 (List.mem_of_getElem? (i := 9) rfl)⟩
theorem lw_p15 : lw_okq (⟨"FirstIn$Reader", "mark", "()V"⟩, 7) := ⟨⟨by decide +kernel, by decide +kernel⟩, lw_t1 (List.mem_of_getElem? (i := 52) rfl), lw_t3 (List.mem_of_getElem? (i := 58) rfl), lw_t3 (List.mem_of_getElem? (i := 59) rfl)⟩
def lw_privs_1 : List (MethodName × Nat) := [(⟨"FirstIn", "feeds", "(I)V"⟩, 14), (⟨"FirstIn$Reader", "next", "()V"⟩, 7), (⟨"FirstIn$Reader", "wrong", "()LFirstIn$Fault;"⟩, 7), (⟨"java/lang/Throwable", "fillInStackTrace", "(I)Ljava/lang/Throwable;"⟩, 6), (⟨"FirstIn$Reader", "line", "()V"⟩, 7), (⟨"FirstIn$Reader", "word", "()I"⟩, 7), (⟨"FirstIn$Reader", "isWord", "()Z"⟩, 7), (⟨"FirstIn$Reader", "isOver", "()Z"⟩, 7), (⟨"FirstIn$Reader", "newName", "()[B"⟩, 7), (⟨"FirstIn$Reader", "isName", "()Z"⟩, 7), (⟨"FirstIn$Reader", "guestHere", "()LFirstIn$Guest;"⟩, 7), (⟨"FirstIn$Reader", "markHere", "()LFirstIn$Mark;"⟩, 7), (⟨"java/util/ArrayList", "add", "(Ljava/lang/Object;[Ljava/lang/Object;I)V"⟩, 3), (⟨"java/util/ArrayList", "grow", "()[Ljava/lang/Object;"⟩, 3), (⟨"java/util/ArrayList", "grow", "(I)[Ljava/lang/Object;"⟩, 3), (⟨"FirstIn$Reader", "mark", "()V"⟩, 7)]
theorem lw_r1 : ∀ q ∈ lw_privs_1, lw_okq q := List.forall_mem_cons.mpr ⟨lw_p0, List.forall_mem_cons.mpr ⟨lw_p1, List.forall_mem_cons.mpr ⟨lw_p2, List.forall_mem_cons.mpr ⟨lw_p3, List.forall_mem_cons.mpr ⟨lw_p4, List.forall_mem_cons.mpr ⟨lw_p5, List.forall_mem_cons.mpr ⟨lw_p6, List.forall_mem_cons.mpr ⟨lw_p7, List.forall_mem_cons.mpr ⟨lw_p8, List.forall_mem_cons.mpr ⟨lw_p9, List.forall_mem_cons.mpr ⟨lw_p10, List.forall_mem_cons.mpr ⟨lw_p11, List.forall_mem_cons.mpr ⟨lw_p12, List.forall_mem_cons.mpr ⟨lw_p13, List.forall_mem_cons.mpr ⟨lw_p14, List.forall_mem_cons.mpr ⟨lw_p15, fun _ h => absurd h List.not_mem_nil⟩⟩⟩⟩⟩⟩⟩⟩⟩⟩⟩⟩⟩⟩⟩⟩
theorem lw_p16 : lw_okq (⟨"FirstIn$Reader", "needsWord", "(I)V"⟩, 7) := ⟨⟨by decide +kernel, by decide +kernel⟩, lw_t1 (List.mem_of_getElem? (i := 52) rfl), lw_t3 (List.mem_of_getElem? (i := 75) rfl), lw_t3 (List.mem_of_getElem? (i := 76) rfl)⟩
theorem lw_p17 : lw_okq (⟨"FirstIn$Reader", "member", "(LFirstIn$Mark;)V"⟩, 7) := ⟨⟨by decide +kernel, by decide +kernel⟩, lw_t1 (List.mem_of_getElem? (i := 52) rfl), lw_t3 (List.mem_of_getElem? (i := 79) rfl), lw_t3 (List.mem_of_getElem? (i := 80) rfl)⟩
theorem lw_p18 : lw_okq (⟨"FirstIn$Reader", "rule", "(I)V"⟩, 7) := ⟨⟨by decide +kernel, by decide +kernel⟩, lw_t1 (List.mem_of_getElem? (i := 52) rfl), lw_t3 (List.mem_of_getElem? (i := 83) rfl), lw_t3 (List.mem_of_getElem? (i := 84) rfl)⟩
theorem lw_p19 : lw_okq (⟨"FirstIn$Reader", "side", "()LFirstIn$Side;"⟩, 7) := ⟨⟨by decide +kernel, by decide +kernel⟩, lw_t1 (List.mem_of_getElem? (i := 52) rfl), lw_t3 (List.mem_of_getElem? (i := 87) rfl), lw_t3 (List.mem_of_getElem? (i := 88) rfl)⟩
theorem lw_p20 : lw_okq (⟨"FirstIn$Reader", "number", "(II)I"⟩, 7) := ⟨⟨by decide +kernel, by decide +kernel⟩, lw_t1 (List.mem_of_getElem? (i := 52) rfl), lw_t3 (List.mem_of_getElem? (i := 91) rfl), lw_t3 (List.mem_of_getElem? (i := 92) rfl)⟩
theorem lw_p21 : lw_okq (⟨"FirstIn$Reader", "over", "()V"⟩, 7) := ⟨⟨by decide +kernel, by decide +kernel⟩, lw_t1 (List.mem_of_getElem? (i := 52) rfl), lw_t3 (List.mem_of_getElem? (i := 213) rfl), lw_t3 (List.mem_of_getElem? (i := 214) rfl)⟩
theorem lw_p22 : lw_okq (⟨"FirstIn", "guestAt", "(I)LFirstIn$Guest;"⟩, 14) := ⟨⟨by decide +kernel, by decide +kernel⟩, lw_t1 (List.mem_of_getElem? (i := 44) rfl), lw_t4 (List.mem_of_getElem? (i := 55) rfl), lw_t4 (List.mem_of_getElem? (i := 56) rfl)⟩
theorem lw_p23 : lw_okq (⟨"FirstIn", "ruleAt", "(I)LFirstIn$Rule;"⟩, 14) := ⟨⟨by decide +kernel, by decide +kernel⟩, lw_t1 (List.mem_of_getElem? (i := 44) rfl), lw_t4 (List.mem_of_getElem? (i := 63) rfl), lw_t4 (List.mem_of_getElem? (i := 64) rfl)⟩
theorem lw_p24 : lw_okq (⟨"FirstIn", "roomAt", "(I)LFirstIn$Room;"⟩, 14) := ⟨⟨by decide +kernel, by decide +kernel⟩, lw_t1 (List.mem_of_getElem? (i := 44) rfl), lw_t4 (List.mem_of_getElem? (i := 104) rfl), lw_t4 (List.mem_of_getElem? (i := 105) rfl)⟩
theorem lw_p25 : lw_okq (⟨"FirstIn", "who", "(II)LFirstIn$Guest;"⟩, 14) := ⟨⟨by decide +kernel, by decide +kernel⟩, lw_t1 (List.mem_of_getElem? (i := 44) rfl), lw_t4 (List.mem_of_getElem? (i := 109) rfl), lw_t4 (List.mem_of_getElem? (i := 110) rfl)⟩
theorem lw_p26 : lw_okq (⟨"FirstIn", "sourceOf", "(III)I"⟩, 14) := ⟨⟨by decide +kernel, by decide +kernel⟩, lw_t1 (List.mem_of_getElem? (i := 44) rfl), lw_t4 (List.mem_of_getElem? (i := 169) rfl), lw_t4 (List.mem_of_getElem? (i := 170) rfl)⟩
theorem lw_p27 : lw_okq (⟨"FirstIn", "hasCouple", "(LFirstIn$Rule;II)Z"⟩, 14) := ⟨⟨by decide +kernel, by decide +kernel⟩, lw_t1 (List.mem_of_getElem? (i := 44) rfl), lw_t4 (List.mem_of_getElem? (i := 180) rfl), lw_t4 (List.mem_of_getElem? (i := 181) rfl)⟩
theorem lw_p28 : lw_okq (⟨"FirstIn", "areComing", "(LFirstIn$Couple;)Z"⟩, 14) := ⟨⟨by decide +kernel, by decide +kernel⟩, lw_t1 (List.mem_of_getElem? (i := 44) rfl), lw_t4 (List.mem_of_getElem? (i := 185) rfl), lw_t4 (List.mem_of_getElem? (i := 186) rfl)⟩
theorem lw_p29 : lw_okq (⟨"FirstIn", "isCourse", "(II)Z"⟩, 14) := ⟨⟨by decide +kernel, by decide +kernel⟩, lw_t1 (List.mem_of_getElem? (i := 44) rfl), lw_t4 (List.mem_of_getElem? (i := 193) rfl), lw_t4 (List.mem_of_getElem? (i := 194) rfl)⟩
theorem lw_p30 : lw_okq (⟨"FirstIn", "slightsIn", "(III)Ljava/util/ArrayList;"⟩, 14) := ⟨⟨by decide +kernel, by decide +kernel⟩, lw_t1 (List.mem_of_getElem? (i := 44) rfl), lw_t4 (List.mem_of_getElem? (i := 197) rfl), lw_t4 (List.mem_of_getElem? (i := 198) rfl)⟩
theorem lw_p31 : lw_okq (⟨"FirstIn", "findAbove", "(II)V"⟩, 14) := ⟨⟨by decide +kernel, by decide +kernel⟩, lw_t1 (List.mem_of_getElem? (i := 44) rfl), lw_t5 (List.mem_of_getElem? (i := 39) rfl), lw_t5 (List.mem_of_getElem? (i := 40) rfl)⟩
def lw_privs_2 : List (MethodName × Nat) := [(⟨"FirstIn$Reader", "needsWord", "(I)V"⟩, 7), (⟨"FirstIn$Reader", "member", "(LFirstIn$Mark;)V"⟩, 7), (⟨"FirstIn$Reader", "rule", "(I)V"⟩, 7), (⟨"FirstIn$Reader", "side", "()LFirstIn$Side;"⟩, 7), (⟨"FirstIn$Reader", "number", "(II)I"⟩, 7), (⟨"FirstIn$Reader", "over", "()V"⟩, 7), (⟨"FirstIn", "guestAt", "(I)LFirstIn$Guest;"⟩, 14), (⟨"FirstIn", "ruleAt", "(I)LFirstIn$Rule;"⟩, 14), (⟨"FirstIn", "roomAt", "(I)LFirstIn$Room;"⟩, 14), (⟨"FirstIn", "who", "(II)LFirstIn$Guest;"⟩, 14), (⟨"FirstIn", "sourceOf", "(III)I"⟩, 14), (⟨"FirstIn", "hasCouple", "(LFirstIn$Rule;II)Z"⟩, 14), (⟨"FirstIn", "areComing", "(LFirstIn$Couple;)Z"⟩, 14), (⟨"FirstIn", "isCourse", "(II)Z"⟩, 14), (⟨"FirstIn", "slightsIn", "(III)Ljava/util/ArrayList;"⟩, 14), (⟨"FirstIn", "findAbove", "(II)V"⟩, 14)]
theorem lw_r2 : ∀ q ∈ lw_privs_2, lw_okq q := List.forall_mem_cons.mpr ⟨lw_p16, List.forall_mem_cons.mpr ⟨lw_p17, List.forall_mem_cons.mpr ⟨lw_p18, List.forall_mem_cons.mpr ⟨lw_p19, List.forall_mem_cons.mpr ⟨lw_p20, List.forall_mem_cons.mpr ⟨lw_p21, List.forall_mem_cons.mpr ⟨lw_p22, List.forall_mem_cons.mpr ⟨lw_p23, List.forall_mem_cons.mpr ⟨lw_p24, List.forall_mem_cons.mpr ⟨lw_p25, List.forall_mem_cons.mpr ⟨lw_p26, List.forall_mem_cons.mpr ⟨lw_p27, List.forall_mem_cons.mpr ⟨lw_p28, List.forall_mem_cons.mpr ⟨lw_p29, List.forall_mem_cons.mpr ⟨lw_p30, List.forall_mem_cons.mpr ⟨lw_p31, fun _ h => absurd h List.not_mem_nil⟩⟩⟩⟩⟩⟩⟩⟩⟩⟩⟩⟩⟩⟩⟩⟩
theorem lw_p32 : lw_okq (⟨"FirstIn", "findSteps", "(I)V"⟩, 14) := ⟨⟨by decide +kernel, by decide +kernel⟩, lw_t1 (List.mem_of_getElem? (i := 44) rfl), lw_t5 (List.mem_of_getElem? (i := 43) rfl), lw_t5 (List.mem_of_getElem? (i := 44) rfl)⟩
theorem lw_p33 : lw_okq (⟨"FirstIn", "isAbove", "(II)Z"⟩, 14) := ⟨⟨by decide +kernel, by decide +kernel⟩, lw_t1 (List.mem_of_getElem? (i := 44) rfl), lw_t5 (List.mem_of_getElem? (i := 47) rfl), lw_t5 (List.mem_of_getElem? (i := 48) rfl)⟩
theorem lw_p34 : lw_okq (⟨"FirstIn", "isAboveOnly", "(II)Z"⟩, 14) := ⟨⟨by decide +kernel, by decide +kernel⟩, lw_t1 (List.mem_of_getElem? (i := 44) rfl), lw_t5 (List.mem_of_getElem? (i := 59) rfl), lw_t5 (List.mem_of_getElem? (i := 60) rfl)⟩
theorem lw_p35 : lw_okq (⟨"FirstIn", "weightOf", "(I)I"⟩, 14) := ⟨⟨by decide +kernel, by decide +kernel⟩, lw_t1 (List.mem_of_getElem? (i := 44) rfl), lw_t5 (List.mem_of_getElem? (i := 63) rfl), lw_t5 (List.mem_of_getElem? (i := 64) rfl)⟩
theorem lw_p36 : lw_okq (⟨"FirstIn", "hasRing", "()Z"⟩, 14) := ⟨⟨by decide +kernel, by decide +kernel⟩, lw_t1 (List.mem_of_getElem? (i := 44) rfl), lw_t5 (List.mem_of_getElem? (i := 73) rfl), lw_t5 (List.mem_of_getElem? (i := 74) rfl)⟩
theorem lw_p37 : lw_okq (⟨"FirstIn", "coming", "()Ljava/util/ArrayList;"⟩, 14) := ⟨⟨by decide +kernel, by decide +kernel⟩, lw_t1 (List.mem_of_getElem? (i := 44) rfl), lw_t5 (List.mem_of_getElem? (i := 81) rfl), lw_t5 (List.mem_of_getElem? (i := 82) rfl)⟩
theorem lw_p38 : lw_okq (⟨"FirstIn", "isHeldBack", "(Ljava/util/ArrayList;I)Z"⟩, 14) := ⟨⟨by decide +kernel, by decide +kernel⟩, lw_t1 (List.mem_of_getElem? (i := 44) rfl), lw_t5 (List.mem_of_getElem? (i := 85) rfl), lw_t5 (List.mem_of_getElem? (i := 86) rfl)⟩
theorem lw_p39 : lw_okq (⟨"java/util/ArrayList", "fastRemove", "([Ljava/lang/Object;I)V"⟩, 3) := ⟨⟨by decide +kernel, by decide +kernel⟩, lw_t1 (List.mem_of_getElem? (i := 58) rfl), lw_t5 (List.mem_of_getElem? (i := 93) rfl), lw_t5 (List.mem_of_getElem? (i := 94) rfl)⟩
theorem lw_p40 : lw_okq (⟨"FirstIn", "findTogether", "(I)V"⟩, 14) := ⟨⟨by decide +kernel, by decide +kernel⟩, lw_t1 (List.mem_of_getElem? (i := 44) rfl), lw_t5 (List.mem_of_getElem? (i := 102) rfl), lw_t5 (List.mem_of_getElem? (i := 103) rfl)⟩
theorem lw_p41 : lw_okq (⟨"FirstIn", "isEven", "(LFirstIn$Rule;I)Z"⟩, 14) := ⟨⟨by decide +kernel, by decide +kernel⟩, lw_t1 (List.mem_of_getElem? (i := 44) rfl), lw_t5 (List.mem_of_getElem? (i := 106) rfl), lw_t5 (List.mem_of_getElem? (i := 107) rfl)⟩
theorem lw_p42 : lw_okq (⟨"FirstIn", "mayGo", "(II[I[I)Z"⟩, 14) := ⟨⟨by decide +kernel, by decide +kernel⟩, lw_t1 (List.mem_of_getElem? (i := 44) rfl), lw_t5 (List.mem_of_getElem? (i := 112) rfl), lw_t5 (List.mem_of_getElem? (i := 113) rfl)⟩
theorem lw_p43 : lw_okq (⟨"FirstIn", "isHeap", "(II)Z"⟩, 14) := ⟨⟨by decide +kernel, by decide +kernel⟩, lw_t1 (List.mem_of_getElem? (i := 44) rfl), lw_t5 (List.mem_of_getElem? (i := 120) rfl), lw_t5 (List.mem_of_getElem? (i := 121) rfl)⟩
theorem lw_p44 : lw_okq (⟨"FirstIn", "heaps", "(Ljava/util/ArrayList;II[Z)V"⟩, 14) := ⟨⟨by decide +kernel, by decide +kernel⟩, lw_t1 (List.mem_of_getElem? (i := 44) rfl), lw_t5 (List.mem_of_getElem? (i := 124) rfl), lw_t5 (List.mem_of_getElem? (i := 125) rfl)⟩
theorem lw_p45 : lw_okq (⟨"FirstIn", "canBeAsked", "(I)Z"⟩, 14) := ⟨⟨by decide +kernel, by decide +kernel⟩, lw_t1 (List.mem_of_getElem? (i := 44) rfl), lw_t5 (List.mem_of_getElem? (i := 134) rfl), lw_t5 (List.mem_of_getElem? (i := 135) rfl)⟩
theorem lw_p46 : lw_okq (⟨"FirstIn", "findLeast", "(I)LFirstIn$Least;"⟩, 14) := ⟨⟨by decide +kernel, by decide +kernel⟩, lw_t1 (List.mem_of_getElem? (i := 44) rfl), lw_t5 (List.mem_of_getElem? (i := 138) rfl), lw_t5 (List.mem_of_getElem? (i := 139) rfl)⟩
theorem lw_p47 : lw_okq (⟨"FirstIn", "bonds", "(I)Ljava/util/ArrayList;"⟩, 14) := ⟨⟨by decide +kernel, by decide +kernel⟩, lw_t1 (List.mem_of_getElem? (i := 44) rfl), lw_t5 (List.mem_of_getElem? (i := 144) rfl), lw_t5 (List.mem_of_getElem? (i := 145) rfl)⟩
def lw_privs_3 : List (MethodName × Nat) := [(⟨"FirstIn", "findSteps", "(I)V"⟩, 14), (⟨"FirstIn", "isAbove", "(II)Z"⟩, 14), (⟨"FirstIn", "isAboveOnly", "(II)Z"⟩, 14), (⟨"FirstIn", "weightOf", "(I)I"⟩, 14), (⟨"FirstIn", "hasRing", "()Z"⟩, 14), (⟨"FirstIn", "coming", "()Ljava/util/ArrayList;"⟩, 14), (⟨"FirstIn", "isHeldBack", "(Ljava/util/ArrayList;I)Z"⟩, 14), (⟨"java/util/ArrayList", "fastRemove", "([Ljava/lang/Object;I)V"⟩, 3), (⟨"FirstIn", "findTogether", "(I)V"⟩, 14), (⟨"FirstIn", "isEven", "(LFirstIn$Rule;I)Z"⟩, 14), (⟨"FirstIn", "mayGo", "(II[I[I)Z"⟩, 14), (⟨"FirstIn", "isHeap", "(II)Z"⟩, 14), (⟨"FirstIn", "heaps", "(Ljava/util/ArrayList;II[Z)V"⟩, 14), (⟨"FirstIn", "canBeAsked", "(I)Z"⟩, 14), (⟨"FirstIn", "findLeast", "(I)LFirstIn$Least;"⟩, 14), (⟨"FirstIn", "bonds", "(I)Ljava/util/ArrayList;"⟩, 14)]
theorem lw_r3 : ∀ q ∈ lw_privs_3, lw_okq q := List.forall_mem_cons.mpr ⟨lw_p32, List.forall_mem_cons.mpr ⟨lw_p33, List.forall_mem_cons.mpr ⟨lw_p34, List.forall_mem_cons.mpr ⟨lw_p35, List.forall_mem_cons.mpr ⟨lw_p36, List.forall_mem_cons.mpr ⟨lw_p37, List.forall_mem_cons.mpr ⟨lw_p38, List.forall_mem_cons.mpr ⟨lw_p39, List.forall_mem_cons.mpr ⟨lw_p40, List.forall_mem_cons.mpr ⟨lw_p41, List.forall_mem_cons.mpr ⟨lw_p42, List.forall_mem_cons.mpr ⟨lw_p43, List.forall_mem_cons.mpr ⟨lw_p44, List.forall_mem_cons.mpr ⟨lw_p45, List.forall_mem_cons.mpr ⟨lw_p46, List.forall_mem_cons.mpr ⟨lw_p47, fun _ h => absurd h List.not_mem_nil⟩⟩⟩⟩⟩⟩⟩⟩⟩⟩⟩⟩⟩⟩⟩⟩
theorem lw_p48 : lw_okq (⟨"FirstIn", "findMildest", "(I)LFirstIn$Mildest;"⟩, 14) := ⟨⟨by decide +kernel, by decide +kernel⟩, lw_t1 (List.mem_of_getElem? (i := 44) rfl), lw_t6 (List.mem_of_getElem? (i := 47) rfl), lw_t6 (List.mem_of_getElem? (i := 48) rfl)⟩
theorem lw_p49 : lw_okq (⟨"FirstInModel", "feeds", "(I)V"⟩, 64) := ⟨⟨by decide +kernel, by decide +kernel⟩, lw_t6 (List.mem_of_getElem? (i := 131) rfl), lw_t7 (List.mem_of_getElem? (i := 110) rfl), lw_t7 (List.mem_of_getElem? (i := 111) rfl)⟩
theorem lw_p50 : lw_okq (⟨"FirstInModel", "reads", "()V"⟩, 64) := ⟨⟨by decide +kernel, by decide +kernel⟩, lw_t6 (List.mem_of_getElem? (i := 131) rfl), lw_t7 (List.mem_of_getElem? (i := 125) rfl), lw_t7 (List.mem_of_getElem? (i := 126) rfl)⟩
theorem lw_p51 : lw_okq (⟨"FirstInModel", "next", "()V"⟩, 64) := ⟨⟨by decide +kernel, by decide +kernel⟩, lw_t6 (List.mem_of_getElem? (i := 131) rfl), lw_t7 (List.mem_of_getElem? (i := 129) rfl), lw_t7 (List.mem_of_getElem? (i := 130) rfl)⟩
theorem lw_p52 : lw_okq (⟨"FirstInModel", "between", "(III)Z"⟩, 64) := ⟨⟨by decide +kernel, by decide +kernel⟩, lw_t6 (List.mem_of_getElem? (i := 131) rfl), lw_t7 (List.mem_of_getElem? (i := 133) rfl), lw_t7 (List.mem_of_getElem? (i := 134) rfl)⟩
theorem lw_p53 : lw_okq (⟨"FirstInModel", "line", "()Z"⟩, 64) := ⟨⟨by decide +kernel, by decide +kernel⟩, lw_t6 (List.mem_of_getElem? (i := 131) rfl), lw_t7 (List.mem_of_getElem? (i := 137) rfl), lw_t7 (List.mem_of_getElem? (i := 138) rfl)⟩
theorem lw_p54 : lw_okq (⟨"FirstInModel", "isWord", "(I)Z"⟩, 64) := ⟨⟨by decide +kernel, by decide +kernel⟩, lw_t6 (List.mem_of_getElem? (i := 131) rfl), lw_t7 (List.mem_of_getElem? (i := 141) rfl), lw_t7 (List.mem_of_getElem? (i := 142) rfl)⟩
theorem lw_p55 : lw_okq (⟨"FirstInModel", "passes", "(Z)Z"⟩, 64) := ⟨⟨by decide +kernel, by decide +kernel⟩, lw_t6 (List.mem_of_getElem? (i := 131) rfl), lw_t7 (List.mem_of_getElem? (i := 147) rfl), lw_t7 (List.mem_of_getElem? (i := 148) rfl)⟩
theorem lw_p56 : lw_okq (⟨"FirstInModel", "guestRead", "()Z"⟩, 64) := ⟨⟨by decide +kernel, by decide +kernel⟩, lw_t6 (List.mem_of_getElem? (i := 131) rfl), lw_t7 (List.mem_of_getElem? (i := 151) rfl), lw_t7 (List.mem_of_getElem? (i := 152) rfl)⟩
theorem lw_p57 : lw_okq (⟨"FirstInModel", "named", "()J"⟩, 64) := ⟨⟨by decide +kernel, by decide +kernel⟩, lw_t6 (List.mem_of_getElem? (i := 131) rfl), lw_t7 (List.mem_of_getElem? (i := 155) rfl), lw_t7 (List.mem_of_getElem? (i := 156) rfl)⟩
theorem lw_p58 : lw_okq (⟨"FirstInModel", "isNew", "(J)Z"⟩, 64) := ⟨⟨by decide +kernel, by decide +kernel⟩, lw_t6 (List.mem_of_getElem? (i := 131) rfl), lw_t7 (List.mem_of_getElem? (i := 162) rfl), lw_t7 (List.mem_of_getElem? (i := 163) rfl)⟩
theorem lw_p59 : lw_okq (⟨"FirstInModel", "guestOf", "(J)I"⟩, 64) := ⟨⟨by decide +kernel, by decide +kernel⟩, lw_t6 (List.mem_of_getElem? (i := 131) rfl), lw_t7 (List.mem_of_getElem? (i := 166) rfl), lw_t7 (List.mem_of_getElem? (i := 167) rfl)⟩
theorem lw_p60 : lw_okq (⟨"FirstInModel", "markOf", "(J)I"⟩, 64) := ⟨⟨by decide +kernel, by decide +kernel⟩, lw_t6 (List.mem_of_getElem? (i := 131) rfl), lw_t7 (List.mem_of_getElem? (i := 170) rfl), lw_t7 (List.mem_of_getElem? (i := 171) rfl)⟩
theorem lw_p61 : lw_okq (⟨"FirstInModel", "closes", "()Z"⟩, 64) := ⟨⟨by decide +kernel, by decide +kernel⟩, lw_t6 (List.mem_of_getElem? (i := 131) rfl), lw_t7 (List.mem_of_getElem? (i := 174) rfl), lw_t7 (List.mem_of_getElem? (i := 175) rfl)⟩
theorem lw_p62 : lw_okq (⟨"FirstInModel", "markRead", "()Z"⟩, 64) := ⟨⟨by decide +kernel, by decide +kernel⟩, lw_t6 (List.mem_of_getElem? (i := 131) rfl), lw_t7 (List.mem_of_getElem? (i := 178) rfl), lw_t7 (List.mem_of_getElem? (i := 179) rfl)⟩
theorem lw_p63 : lw_okq (⟨"FirstInModel", "ruleRead", "(I)Z"⟩, 64) := ⟨⟨by decide +kernel, by decide +kernel⟩, lw_t6 (List.mem_of_getElem? (i := 131) rfl), lw_t7 (List.mem_of_getElem? (i := 182) rfl), lw_t7 (List.mem_of_getElem? (i := 183) rfl)⟩
def lw_privs_4 : List (MethodName × Nat) := [(⟨"FirstIn", "findMildest", "(I)LFirstIn$Mildest;"⟩, 14), (⟨"FirstInModel", "feeds", "(I)V"⟩, 64), (⟨"FirstInModel", "reads", "()V"⟩, 64), (⟨"FirstInModel", "next", "()V"⟩, 64), (⟨"FirstInModel", "between", "(III)Z"⟩, 64), (⟨"FirstInModel", "line", "()Z"⟩, 64), (⟨"FirstInModel", "isWord", "(I)Z"⟩, 64), (⟨"FirstInModel", "passes", "(Z)Z"⟩, 64), (⟨"FirstInModel", "guestRead", "()Z"⟩, 64), (⟨"FirstInModel", "named", "()J"⟩, 64), (⟨"FirstInModel", "isNew", "(J)Z"⟩, 64), (⟨"FirstInModel", "guestOf", "(J)I"⟩, 64), (⟨"FirstInModel", "markOf", "(J)I"⟩, 64), (⟨"FirstInModel", "closes", "()Z"⟩, 64), (⟨"FirstInModel", "markRead", "()Z"⟩, 64), (⟨"FirstInModel", "ruleRead", "(I)Z"⟩, 64)]
theorem lw_r4 : ∀ q ∈ lw_privs_4, lw_okq q := List.forall_mem_cons.mpr ⟨lw_p48, List.forall_mem_cons.mpr ⟨lw_p49, List.forall_mem_cons.mpr ⟨lw_p50, List.forall_mem_cons.mpr ⟨lw_p51, List.forall_mem_cons.mpr ⟨lw_p52, List.forall_mem_cons.mpr ⟨lw_p53, List.forall_mem_cons.mpr ⟨lw_p54, List.forall_mem_cons.mpr ⟨lw_p55, List.forall_mem_cons.mpr ⟨lw_p56, List.forall_mem_cons.mpr ⟨lw_p57, List.forall_mem_cons.mpr ⟨lw_p58, List.forall_mem_cons.mpr ⟨lw_p59, List.forall_mem_cons.mpr ⟨lw_p60, List.forall_mem_cons.mpr ⟨lw_p61, List.forall_mem_cons.mpr ⟨lw_p62, List.forall_mem_cons.mpr ⟨lw_p63, fun _ h => absurd h List.not_mem_nil⟩⟩⟩⟩⟩⟩⟩⟩⟩⟩⟩⟩⟩⟩⟩⟩
theorem lw_p64 : lw_okq (⟨"FirstInModel", "someone", "()Z"⟩, 64) := ⟨⟨by decide +kernel, by decide +kernel⟩, lw_t6 (List.mem_of_getElem? (i := 131) rfl), lw_t7 (List.mem_of_getElem? (i := 186) rfl), lw_t7 (List.mem_of_getElem? (i := 187) rfl)⟩
theorem lw_p65 : lw_okq (⟨"FirstInModel", "number", "(II)Z"⟩, 64) := ⟨⟨by decide +kernel, by decide +kernel⟩, lw_t6 (List.mem_of_getElem? (i := 131) rfl), lw_t7 (List.mem_of_getElem? (i := 190) rfl), lw_t7 (List.mem_of_getElem? (i := 191) rfl)⟩
theorem lw_p66 : lw_okq (⟨"FirstInModel", "isGuest", "(I)Z"⟩, 64) := ⟨⟨by decide +kernel, by decide +kernel⟩, lw_t6 (List.mem_of_getElem? (i := 131) rfl), lw_t7 (List.mem_of_getElem? (i := 208) rfl), lw_t7 (List.mem_of_getElem? (i := 209) rfl)⟩
theorem lw_p67 : lw_okq (⟨"FirstInModel", "marksOf", "(I)I"⟩, 64) := ⟨⟨by decide +kernel, by decide +kernel⟩, lw_t6 (List.mem_of_getElem? (i := 131) rfl), lw_t7 (List.mem_of_getElem? (i := 212) rfl), lw_t7 (List.mem_of_getElem? (i := 213) rfl)⟩
theorem lw_p68 : lw_okq (⟨"FirstInModel", "isRule", "(I)Z"⟩, 64) := ⟨⟨by decide +kernel, by decide +kernel⟩, lw_t6 (List.mem_of_getElem? (i := 131) rfl), lw_t7 (List.mem_of_getElem? (i := 220) rfl), lw_t7 (List.mem_of_getElem? (i := 221) rfl)⟩
theorem lw_p69 : lw_okq (⟨"FirstInModel", "hasCouple", "(III)Z"⟩, 64) := ⟨⟨by decide +kernel, by decide +kernel⟩, lw_t6 (List.mem_of_getElem? (i := 131) rfl), lw_t7 (List.mem_of_getElem? (i := 224) rfl), lw_t7 (List.mem_of_getElem? (i := 225) rfl)⟩
theorem lw_p70 : lw_okq (⟨"FirstInModel", "couples", "(III)Z"⟩, 64) := ⟨⟨by decide +kernel, by decide +kernel⟩, lw_t6 (List.mem_of_getElem? (i := 131) rfl), lw_t7 (List.mem_of_getElem? (i := 228) rfl), lw_t7 (List.mem_of_getElem? (i := 229) rfl)⟩
theorem lw_p71 : lw_okq (⟨"FirstInModel", "isOf", "(II)Z"⟩, 64) := ⟨⟨by decide +kernel, by decide +kernel⟩, lw_t6 (List.mem_of_getElem? (i := 131) rfl), lw_t7 (List.mem_of_getElem? (i := 232) rfl), lw_t7 (List.mem_of_getElem? (i := 233) rfl)⟩
theorem lw_p72 : lw_okq (⟨"FirstInModel", "isRoom", "(I)Z"⟩, 64) := ⟨⟨by decide +kernel, by decide +kernel⟩, lw_t6 (List.mem_of_getElem? (i := 131) rfl), lw_t8 (List.mem_of_getElem? (i := 8) rfl), lw_t8 (List.mem_of_getElem? (i := 9) rfl)⟩
theorem lw_p73 : lw_okq (⟨"FirstInModel", "isCourse", "(I)Z"⟩, 64) := ⟨⟨by decide +kernel, by decide +kernel⟩, lw_t6 (List.mem_of_getElem? (i := 131) rfl), lw_t8 (List.mem_of_getElem? (i := 24) rfl), lw_t8 (List.mem_of_getElem? (i := 25) rfl)⟩
theorem lw_p74 : lw_okq (⟨"FirstInModel", "high", "(IIII)I"⟩, 64) := ⟨⟨by decide +kernel, by decide +kernel⟩, lw_t6 (List.mem_of_getElem? (i := 131) rfl), lw_t8 (List.mem_of_getElem? (i := 29) rfl), lw_t8 (List.mem_of_getElem? (i := 30) rfl)⟩
theorem lw_p75 : lw_okq (⟨"FirstInModel", "finds", "(III)V"⟩, 64) := ⟨⟨by decide +kernel, by decide +kernel⟩, lw_t6 (List.mem_of_getElem? (i := 131) rfl), lw_t8 (List.mem_of_getElem? (i := 38) rfl), lw_t8 (List.mem_of_getElem? (i := 39) rfl)⟩
theorem lw_p76 : lw_okq (⟨"FirstInModel", "countsFor", "(IIII)Z"⟩, 64) := ⟨⟨by decide +kernel, by decide +kernel⟩, lw_t6 (List.mem_of_getElem? (i := 131) rfl), lw_t8 (List.mem_of_getElem? (i := 42) rfl), lw_t8 (List.mem_of_getElem? (i := 43) rfl)⟩
theorem lw_p77 : lw_okq (⟨"FirstInModel", "counts", "(II)Z"⟩, 64) := ⟨⟨by decide +kernel, by decide +kernel⟩, lw_t6 (List.mem_of_getElem? (i := 131) rfl), lw_t8 (List.mem_of_getElem? (i := 46) rfl), lw_t8 (List.mem_of_getElem? (i := 47) rfl)⟩
theorem lw_p78 : lw_okq (⟨"FirstInModel", "whoMinds", "(IIIII)I"⟩, 64) := ⟨⟨by decide +kernel, by decide +kernel⟩, lw_t6 (List.mem_of_getElem? (i := 131) rfl), lw_t8 (List.mem_of_getElem? (i := 50) rfl), lw_t8 (List.mem_of_getElem? (i := 51) rfl)⟩
theorem lw_p79 : lw_okq (⟨"FirstInModel", "beside", "(III)Z"⟩, 64) := ⟨⟨by decide +kernel, by decide +kernel⟩, lw_t6 (List.mem_of_getElem? (i := 131) rfl), lw_t8 (List.mem_of_getElem? (i := 54) rfl), lw_t8 (List.mem_of_getElem? (i := 55) rfl)⟩
def lw_privs_5 : List (MethodName × Nat) := [(⟨"FirstInModel", "someone", "()Z"⟩, 64), (⟨"FirstInModel", "number", "(II)Z"⟩, 64), (⟨"FirstInModel", "isGuest", "(I)Z"⟩, 64), (⟨"FirstInModel", "marksOf", "(I)I"⟩, 64), (⟨"FirstInModel", "isRule", "(I)Z"⟩, 64), (⟨"FirstInModel", "hasCouple", "(III)Z"⟩, 64), (⟨"FirstInModel", "couples", "(III)Z"⟩, 64), (⟨"FirstInModel", "isOf", "(II)Z"⟩, 64), (⟨"FirstInModel", "isRoom", "(I)Z"⟩, 64), (⟨"FirstInModel", "isCourse", "(I)Z"⟩, 64), (⟨"FirstInModel", "high", "(IIII)I"⟩, 64), (⟨"FirstInModel", "finds", "(III)V"⟩, 64), (⟨"FirstInModel", "countsFor", "(IIII)Z"⟩, 64), (⟨"FirstInModel", "counts", "(II)Z"⟩, 64), (⟨"FirstInModel", "whoMinds", "(IIIII)I"⟩, 64), (⟨"FirstInModel", "beside", "(III)Z"⟩, 64)]
theorem lw_r5 : ∀ q ∈ lw_privs_5, lw_okq q := List.forall_mem_cons.mpr ⟨lw_p64, List.forall_mem_cons.mpr ⟨lw_p65, List.forall_mem_cons.mpr ⟨lw_p66, List.forall_mem_cons.mpr ⟨lw_p67, List.forall_mem_cons.mpr ⟨lw_p68, List.forall_mem_cons.mpr ⟨lw_p69, List.forall_mem_cons.mpr ⟨lw_p70, List.forall_mem_cons.mpr ⟨lw_p71, List.forall_mem_cons.mpr ⟨lw_p72, List.forall_mem_cons.mpr ⟨lw_p73, List.forall_mem_cons.mpr ⟨lw_p74, List.forall_mem_cons.mpr ⟨lw_p75, List.forall_mem_cons.mpr ⟨lw_p76, List.forall_mem_cons.mpr ⟨lw_p77, List.forall_mem_cons.mpr ⟨lw_p78, List.forall_mem_cons.mpr ⟨lw_p79, fun _ h => absurd h List.not_mem_nil⟩⟩⟩⟩⟩⟩⟩⟩⟩⟩⟩⟩⟩⟩⟩⟩
theorem lw_p80 : lw_okq (⟨"FirstInModel", "sourceOf", "(IIII)I"⟩, 64) := ⟨⟨by decide +kernel, by decide +kernel⟩, lw_t6 (List.mem_of_getElem? (i := 131) rfl), lw_t8 (List.mem_of_getElem? (i := 65) rfl), lw_t8 (List.mem_of_getElem? (i := 66) rfl)⟩
theorem lw_p81 : lw_okq (⟨"FirstInModel", "ranks", "(II)V"⟩, 64) := ⟨⟨by decide +kernel, by decide +kernel⟩, lw_t6 (List.mem_of_getElem? (i := 131) rfl), lw_t8 (List.mem_of_getElem? (i := 81) rfl), lw_t8 (List.mem_of_getElem? (i := 82) rfl)⟩
theorem lw_p82 : lw_okq (⟨"FirstInModel", "all", "()I"⟩, 64) := ⟨⟨by decide +kernel, by decide +kernel⟩, lw_t6 (List.mem_of_getElem? (i := 131) rfl), lw_t8 (List.mem_of_getElem? (i := 85) rfl), lw_t8 (List.mem_of_getElem? (i := 86) rfl)⟩
theorem lw_p83 : lw_okq (⟨"FirstInModel", "through", "(II)I"⟩, 64) := ⟨⟨by decide +kernel, by decide +kernel⟩, lw_t6 (List.mem_of_getElem? (i := 131) rfl), lw_t8 (List.mem_of_getElem? (i := 89) rfl), lw_t8 (List.mem_of_getElem? (i := 90) rfl)⟩
theorem lw_p84 : lw_okq (⟨"FirstInModel", "leads", "(II)V"⟩, 64) := ⟨⟨by decide +kernel, by decide +kernel⟩, lw_t6 (List.mem_of_getElem? (i := 131) rfl), lw_t8 (List.mem_of_getElem? (i := 93) rfl), lw_t8 (List.mem_of_getElem? (i := 94) rfl)⟩
theorem lw_p85 : lw_okq (⟨"FirstInModel", "hasRing", "(I)Z"⟩, 64) := ⟨⟨by decide +kernel, by decide +kernel⟩, lw_t6 (List.mem_of_getElem? (i := 131) rfl), lw_t8 (List.mem_of_getElem? (i := 106) rfl), lw_t8 (List.mem_of_getElem? (i := 107) rfl)⟩
theorem lw_p86 : lw_okq (⟨"FirstInModel", "comingBits", "()I"⟩, 64) := ⟨⟨by decide +kernel, by decide +kernel⟩, lw_t6 (List.mem_of_getElem? (i := 131) rfl), lw_t8 (List.mem_of_getElem? (i := 114) rfl), lw_t8 (List.mem_of_getElem? (i := 115) rfl)⟩
theorem lw_p87 : lw_okq (⟨"FirstInModel", "isFree", "(II)Z"⟩, 64) := ⟨⟨by decide +kernel, by decide +kernel⟩, lw_t6 (List.mem_of_getElem? (i := 131) rfl), lw_t8 (List.mem_of_getElem? (i := 118) rfl), lw_t8 (List.mem_of_getElem? (i := 119) rfl)⟩
theorem lw_p88 : lw_okq (⟨"FirstInModel", "groups", "()I"⟩, 64) := ⟨⟨by decide +kernel, by decide +kernel⟩, lw_t6 (List.mem_of_getElem? (i := 131) rfl), lw_t8 (List.mem_of_getElem? (i := 126) rfl), lw_t8 (List.mem_of_getElem? (i := 127) rfl)⟩
theorem lw_p89 : lw_okq (⟨"FirstInModel", "bitsOf", "(II)I"⟩, 64) := ⟨⟨by decide +kernel, by decide +kernel⟩, lw_t6 (List.mem_of_getElem? (i := 131) rfl), lw_t8 (List.mem_of_getElem? (i := 131) rfl), lw_t8 (List.mem_of_getElem? (i := 132) rfl)⟩
theorem lw_p90 : lw_okq (⟨"FirstInModel", "mayGo", "(II)Z"⟩, 64) := ⟨⟨by decide +kernel, by decide +kernel⟩, lw_t6 (List.mem_of_getElem? (i := 131) rfl), lw_t8 (List.mem_of_getElem? (i := 135) rfl), lw_t8 (List.mem_of_getElem? (i := 136) rfl)⟩
theorem lw_p91 : lw_okq (⟨"FirstInModel", "isQuiet", "(I)Z"⟩, 64) := ⟨⟨by decide +kernel, by decide +kernel⟩, lw_t6 (List.mem_of_getElem? (i := 131) rfl), lw_t8 (List.mem_of_getElem? (i := 143) rfl), lw_t8 (List.mem_of_getElem? (i := 144) rfl)⟩
theorem lw_p92 : lw_okq (⟨"FirstInModel", "parts", "(III)Z"⟩, 64) := ⟨⟨by decide +kernel, by decide +kernel⟩, lw_t6 (List.mem_of_getElem? (i := 131) rfl), lw_t8 (List.mem_of_getElem? (i := 147) rfl), lw_t8 (List.mem_of_getElem? (i := 148) rfl)⟩
theorem lw_p93 : lw_okq (⟨"FirstInModel", "goesThrough", "(IZ)Z"⟩, 64) := ⟨⟨by decide +kernel, by decide +kernel⟩, lw_t6 (List.mem_of_getElem? (i := 131) rfl), lw_t8 (List.mem_of_getElem? (i := 156) rfl), lw_t8 (List.mem_of_getElem? (i := 157) rfl)⟩
theorem lw_p94 : lw_okq (⟨"FirstInModel", "weighPlaces", "(I)V"⟩, 64) := ⟨⟨by decide +kernel, by decide +kernel⟩, lw_t6 (List.mem_of_getElem? (i := 131) rfl), lw_t8 (List.mem_of_getElem? (i := 160) rfl), lw_t8 (List.mem_of_getElem? (i := 161) rfl)⟩
theorem lw_p95 : lw_okq (⟨"FirstInModel", "weighPair", "(IIIII)V"⟩, 64) := ⟨⟨by decide +kernel, by decide +kernel⟩, lw_t6 (List.mem_of_getElem? (i := 131) rfl), lw_t8 (List.mem_of_getElem? (i := 164) rfl), lw_t8 (List.mem_of_getElem? (i := 165) rfl)⟩
def lw_privs_6 : List (MethodName × Nat) := [(⟨"FirstInModel", "sourceOf", "(IIII)I"⟩, 64), (⟨"FirstInModel", "ranks", "(II)V"⟩, 64), (⟨"FirstInModel", "all", "()I"⟩, 64), (⟨"FirstInModel", "through", "(II)I"⟩, 64), (⟨"FirstInModel", "leads", "(II)V"⟩, 64), (⟨"FirstInModel", "hasRing", "(I)Z"⟩, 64), (⟨"FirstInModel", "comingBits", "()I"⟩, 64), (⟨"FirstInModel", "isFree", "(II)Z"⟩, 64), (⟨"FirstInModel", "groups", "()I"⟩, 64), (⟨"FirstInModel", "bitsOf", "(II)I"⟩, 64), (⟨"FirstInModel", "mayGo", "(II)Z"⟩, 64), (⟨"FirstInModel", "isQuiet", "(I)Z"⟩, 64), (⟨"FirstInModel", "parts", "(III)Z"⟩, 64), (⟨"FirstInModel", "goesThrough", "(IZ)Z"⟩, 64), (⟨"FirstInModel", "weighPlaces", "(I)V"⟩, 64), (⟨"FirstInModel", "weighPair", "(IIIII)V"⟩, 64)]
theorem lw_r6 : ∀ q ∈ lw_privs_6, lw_okq q := List.forall_mem_cons.mpr ⟨lw_p80, List.forall_mem_cons.mpr ⟨lw_p81, List.forall_mem_cons.mpr ⟨lw_p82, List.forall_mem_cons.mpr ⟨lw_p83, List.forall_mem_cons.mpr ⟨lw_p84, List.forall_mem_cons.mpr ⟨lw_p85, List.forall_mem_cons.mpr ⟨lw_p86, List.forall_mem_cons.mpr ⟨lw_p87, List.forall_mem_cons.mpr ⟨lw_p88, List.forall_mem_cons.mpr ⟨lw_p89, List.forall_mem_cons.mpr ⟨lw_p90, List.forall_mem_cons.mpr ⟨lw_p91, List.forall_mem_cons.mpr ⟨lw_p92, List.forall_mem_cons.mpr ⟨lw_p93, List.forall_mem_cons.mpr ⟨lw_p94, List.forall_mem_cons.mpr ⟨lw_p95, fun _ h => absurd h List.not_mem_nil⟩⟩⟩⟩⟩⟩⟩⟩⟩⟩⟩⟩⟩⟩⟩⟩
theorem lw_p96 : lw_okq (⟨"FirstInModel", "seatsFrom", "(IIII)V"⟩, 64) := ⟨⟨by decide +kernel, by decide +kernel⟩, lw_t6 (List.mem_of_getElem? (i := 131) rfl), lw_t8 (List.mem_of_getElem? (i := 168) rfl), lw_t8 (List.mem_of_getElem? (i := 169) rfl)⟩
theorem lw_p97 : lw_okq (⟨"FirstInModel", "meets", "(II)V"⟩, 64) := ⟨⟨by decide +kernel, by decide +kernel⟩, lw_t6 (List.mem_of_getElem? (i := 131) rfl), lw_t8 (List.mem_of_getElem? (i := 172) rfl), lw_t8 (List.mem_of_getElem? (i := 173) rfl)⟩
theorem lw_p98 : lw_okq (⟨"FirstInModel", "keepsIn", "([I)V"⟩, 64) := ⟨⟨by decide +kernel, by decide +kernel⟩, lw_t6 (List.mem_of_getElem? (i := 131) rfl), lw_t8 (List.mem_of_getElem? (i := 176) rfl), lw_t8 (List.mem_of_getElem? (i := 177) rfl)⟩
theorem lw_p99 : lw_okq (⟨"FirstInModel", "staysElsewhere", "(II)Z"⟩, 64) := ⟨⟨by decide +kernel, by decide +kernel⟩, lw_t6 (List.mem_of_getElem? (i := 131) rfl), lw_t8 (List.mem_of_getElem? (i := 180) rfl), lw_t8 (List.mem_of_getElem? (i := 181) rfl)⟩
theorem lw_p100 : lw_okq (⟨"FirstInModel", "memberOf", "(I)I"⟩, 64) := ⟨⟨by decide +kernel, by decide +kernel⟩, lw_t6 (List.mem_of_getElem? (i := 131) rfl), lw_t8 (List.mem_of_getElem? (i := 188) rfl), lw_t8 (List.mem_of_getElem? (i := 189) rfl)⟩
def lw_privs_7 : List (MethodName × Nat) := [(⟨"FirstInModel", "seatsFrom", "(IIII)V"⟩, 64), (⟨"FirstInModel", "meets", "(II)V"⟩, 64), (⟨"FirstInModel", "keepsIn", "([I)V"⟩, 64), (⟨"FirstInModel", "staysElsewhere", "(II)Z"⟩, 64), (⟨"FirstInModel", "memberOf", "(I)I"⟩, 64)]
theorem lw_r7 : ∀ q ∈ lw_privs_7, lw_okq q := List.forall_mem_cons.mpr ⟨lw_p96, List.forall_mem_cons.mpr ⟨lw_p97, List.forall_mem_cons.mpr ⟨lw_p98, List.forall_mem_cons.mpr ⟨lw_p99, List.forall_mem_cons.mpr ⟨lw_p100, fun _ h => absurd h List.not_mem_nil⟩⟩⟩⟩⟩
def lw_privs : List (MethodName × Nat) := lw_privs_1 ++ (lw_privs_2 ++ (lw_privs_3 ++ (lw_privs_4 ++ (lw_privs_5 ++ (lw_privs_6 ++ (lw_privs_7))))))
def lw_tbl : List Cond := k2_sels lw_privs ++ tables_1
theorem lw_privs_ok : ∀ q ∈ lw_privs, lw_okq q := by
  show ∀ q ∈ lw_privs_1 ++ (lw_privs_2 ++ (lw_privs_3 ++ (lw_privs_4 ++ (lw_privs_5 ++ (lw_privs_6 ++ (lw_privs_7)))))), lw_okq q
  exact List.forall_mem_append.mpr ⟨lw_r1, List.forall_mem_append.mpr ⟨lw_r2, List.forall_mem_append.mpr ⟨lw_r3, List.forall_mem_append.mpr ⟨lw_r4, List.forall_mem_append.mpr ⟨lw_r5, List.forall_mem_append.mpr ⟨lw_r6, lw_r7⟩⟩⟩⟩⟩⟩
-- ===== ONE list of words for every method: the tables' words that hold all through a run =====
def lw_all : List Cond := lw_tbl.filter goodWord
/-- a word of the tables by its place: claim/WORDS.tsv -/
theorem lw_w {w : Cond} (i : Nat) (h : lw_tbl[i]? = some w) (g : goodWord w = true) : w ∈ lw_all := List.mem_filter.mpr ⟨List.mem_of_getElem? h, g⟩
theorem lw_all_tbl {w : Cond} (h : w ∈ lw_all) : w ∈ lw_tbl := (List.mem_filter.mp h).1
theorem lw_self : GoodIn lw_all lw_all := fun w h => ⟨h, good_of_word (List.mem_filter.mp h).2⟩
/-- a class's field words, by their places -/
theorem lw_in (ws : List Cond) (ps : List Nat) (hp : ws = ps.filterMap (fun i => lw_tbl[i]?)) (hg : ws.all goodWord = true) : ∀ w ∈ ws, w ∈ lw_all := by
  intro w h
  have h1 := List.all_eq_true.mp hg w h
  rw [hp] at h
  obtain ⟨i, -, hi⟩ := List.mem_filterMap.mp h
  exact lw_w i hi h1
/-- the words of a contract for the method y with code b, L locals, answer r -/
abbrev ws_ (y : MethodName) (b : ByteArray) (L : Nat) (r : Option FieldType) : List Cond := Cond.code y b L r :: lw_all
theorem lw_meth {y : MethodName} {b : ByteArray} {L : Nat} {r : Option FieldType} (h : Cond.code y b L r ∈ lw_all) : GoodIn lw_all (ws_ y b L r) := by
  intro w hw
  rcases List.mem_cons.mp hw with e | e
  · rw [e]
    exact lw_self _ h
  · exact lw_self _ e
theorem lw_app {a c : List Cond} (ha : ∀ w ∈ a, w ∈ lw_all) (hc : GoodIn lw_all c) : GoodIn lw_all (a ++ c) := by
  intro w hw
  rcases List.mem_append.mp hw with e | e
  · exact lw_self w (ha w e)
  · exact hc w e
/-- what a call through an object asks: cwV n hts (lw_V ..) -/
theorem lw_V {own : String} {idx : Nat} {C : String} {y : MethodName} {b : ByteArray} {L : Nat} {r : Option FieldType} (h1 : Cond.methodLink own idx y ∈ lw_all) (h2 : Cond.instanceMethod y ∈ lw_all) (h3 : Cond.selects C y y ∈ lw_all) (h4 : Cond.initialized C ∈ lw_all) (h5 : Cond.code y b L r ∈ lw_all) : GoodIn lw_all (wsV own idx C y (ws_ y b L r)) := by
  refine lw_app ?_ (lw_meth h5)
  intro w hw
  simp only [List.mem_cons, List.not_mem_nil, or_false] at hw
  rcases hw with e | e | e | e
  · rw [e]; exact h1
  · rw [e]; exact h2
  · rw [e]; exact h3
  · rw [e]; exact h4
/-- what a static call asks: va_cwS n hts (lw_S ..) -/
theorem lw_S {own : String} {idx : Nat} {y : MethodName} {b : ByteArray} {L : Nat} {r : Option FieldType} (h1 : Cond.methodLink own idx y ∈ lw_all) (h2 : Cond.static y ∈ lw_all) (h3 : Cond.initialized y.cls ∈ lw_all) (h4 : Cond.code y b L r ∈ lw_all) : GoodIn lw_all (va_wsS own idx y (ws_ y b L r)) := by
  refine lw_app ?_ (lw_meth h4)
  intro w hw
  simp only [List.mem_cons, List.not_mem_nil, or_false] at hw
  rcases hw with e | e | e
  · rw [e]; exact h1
  · rw [e]; exact h2
  · rw [e]; exact h3
/-- the words of a contract for a method WITH HANDLERS (hh: its table) -/
abbrev wsW_ (y : MethodName) (b : ByteArray) (L : Nat) (r : Option FieldType) (hh : List (Nat × Nat × Nat × Nat)) : List Cond := Cond.codeWith y b L r hh :: lw_all
theorem lw_methW {y : MethodName} {b : ByteArray} {L : Nat} {r : Option FieldType} {hh : List (Nat × Nat × Nat × Nat)} (h : Cond.codeWith y b L r hh ∈ lw_all) : GoodIn lw_all (wsW_ y b L r hh) := by
  intro w hw
  rcases List.mem_cons.mp hw with e | e
  · rw [e]
    exact lw_self _ h
  · exact lw_self _ e
/-- any list of words by their places (lw_in), good -/
theorem lw_good {ws : List Cond} (h : ∀ w ∈ ws, w ∈ lw_all) : GoodIn lw_all ws := fun w hw => lw_self w (h w hw)
/-- what a call of a method with handlers asks: vx_cwVW n hts (lw_VW ..), vx_cwSW n hts (lw_SW ..) -/
theorem lw_VW {own : String} {idx : Nat} {C : String} {y : MethodName} {b : ByteArray} {L : Nat} {r : Option FieldType} {hh : List (Nat × Nat × Nat × Nat)} (h1 : Cond.methodLink own idx y ∈ lw_all) (h2 : Cond.instanceMethod y ∈ lw_all) (h3 : Cond.selects C y y ∈ lw_all) (h4 : Cond.initialized C ∈ lw_all) (h5 : Cond.codeWith y b L r hh ∈ lw_all) : GoodIn lw_all (wsV own idx C y (wsW_ y b L r hh)) := by
  refine lw_app ?_ (lw_methW h5)
  intro w hw
  simp only [List.mem_cons, List.not_mem_nil, or_false] at hw
  rcases hw with e | e | e | e
  · rw [e]; exact h1
  · rw [e]; exact h2
  · rw [e]; exact h3
  · rw [e]; exact h4
theorem lw_SW {own : String} {idx : Nat} {y : MethodName} {b : ByteArray} {L : Nat} {r : Option FieldType} {hh : List (Nat × Nat × Nat × Nat)} (h1 : Cond.methodLink own idx y ∈ lw_all) (h2 : Cond.static y ∈ lw_all) (h3 : Cond.initialized y.cls ∈ lw_all) (h4 : Cond.codeWith y b L r hh ∈ lw_all) : GoodIn lw_all (va_wsS own idx y (wsW_ y b L r hh)) := by
  refine lw_app ?_ (lw_methW h4)
  intro w hw
  simp only [List.mem_cons, List.not_mem_nil, or_false] at hw
  rcases hw with e | e | e
  · rw [e]; exact h1
  · rw [e]; exact h2
  · rw [e]; exact h3
/-- a word by its place in its run of the tables -/
theorem lw_at {r : List Cond} (hr : ∀ w ∈ r, w ∈ lw_tbl) {w : Cond} (i : Nat) (h : r[i]? = some w) : w ∈ lw_tbl := hr w (List.mem_of_getElem? h)
theorem lw_g {w : Cond} (h : w ∈ lw_tbl) (g : goodWord w = true) : w ∈ lw_all := List.mem_filter.mpr ⟨h, g⟩
theorem lw_ms : ∀ w ∈ k2_sels lw_privs, w ∈ lw_tbl := fun w h => show w ∈ k2_sels lw_privs ++ tables_1 from List.mem_append_left _ h
theorem lw_m1 : ∀ w ∈ tables_1_1, w ∈ lw_tbl := fun w h => show w ∈ k2_sels lw_privs ++ tables_1 from List.mem_append_right (k2_sels lw_privs) (show w ∈ tables_1 from List.mem_append_left _ h)
theorem lw_m2 : ∀ w ∈ tables_1_2, w ∈ lw_tbl := fun w h => show w ∈ k2_sels lw_privs ++ tables_1 from List.mem_append_right (k2_sels lw_privs) (show w ∈ tables_1 from List.mem_append_right _ (List.mem_append_left _ h))
theorem lw_m3 : ∀ w ∈ tables_1_3, w ∈ lw_tbl := fun w h => show w ∈ k2_sels lw_privs ++ tables_1 from List.mem_append_right (k2_sels lw_privs) (show w ∈ tables_1 from List.mem_append_right _ (List.mem_append_right _ (List.mem_append_left _ h)))
theorem lw_m4 : ∀ w ∈ tables_1_4, w ∈ lw_tbl := fun w h => show w ∈ k2_sels lw_privs ++ tables_1 from List.mem_append_right (k2_sels lw_privs) (show w ∈ tables_1 from List.mem_append_right _ (List.mem_append_right _ (List.mem_append_right _ (List.mem_append_left _ h))))
theorem lw_m5 : ∀ w ∈ tables_1_5, w ∈ lw_tbl := fun w h => show w ∈ k2_sels lw_privs ++ tables_1 from List.mem_append_right (k2_sels lw_privs) (show w ∈ tables_1 from List.mem_append_right _ (List.mem_append_right _ (List.mem_append_right _ (List.mem_append_right _ (List.mem_append_left _ h)))))
theorem lw_m6 : ∀ w ∈ tables_1_6, w ∈ lw_tbl := fun w h => show w ∈ k2_sels lw_privs ++ tables_1 from List.mem_append_right (k2_sels lw_privs) (show w ∈ tables_1 from List.mem_append_right _ (List.mem_append_right _ (List.mem_append_right _ (List.mem_append_right _ (List.mem_append_right _ (List.mem_append_left _ h))))))
theorem lw_m7 : ∀ w ∈ tables_1_7, w ∈ lw_tbl := fun w h => show w ∈ k2_sels lw_privs ++ tables_1 from List.mem_append_right (k2_sels lw_privs) (show w ∈ tables_1 from List.mem_append_right _ (List.mem_append_right _ (List.mem_append_right _ (List.mem_append_right _ (List.mem_append_right _ (List.mem_append_right _ (List.mem_append_left _ h)))))))
theorem lw_m8 : ∀ w ∈ tables_1_8, w ∈ lw_tbl := fun w h => show w ∈ k2_sels lw_privs ++ tables_1 from List.mem_append_right (k2_sels lw_privs) (show w ∈ tables_1 from List.mem_append_right _ (List.mem_append_right _ (List.mem_append_right _ (List.mem_append_right _ (List.mem_append_right _ (List.mem_append_right _ (List.mem_append_right _ (List.mem_append_left _ h))))))))
theorem lw_m9 : ∀ w ∈ tables_1_9, w ∈ lw_tbl := fun w h => show w ∈ k2_sels lw_privs ++ tables_1 from List.mem_append_right (k2_sels lw_privs) (show w ∈ tables_1 from List.mem_append_right _ (List.mem_append_right _ (List.mem_append_right _ (List.mem_append_right _ (List.mem_append_right _ (List.mem_append_right _ (List.mem_append_right _ (List.mem_append_right _ h))))))))
theorem qs0 : (Cond.selects "FirstIn" ⟨"FirstIn", "feeds", "(I)V"⟩ ⟨"FirstIn", "feeds", "(I)V"⟩) ∈ lw_all := lw_g (lw_at lw_ms 0 rfl) rfl
theorem qs1 : (Cond.selects "FirstIn$Reader" ⟨"FirstIn$Reader", "next", "()V"⟩ ⟨"FirstIn$Reader", "next", "()V"⟩) ∈ lw_all := lw_g (lw_at lw_ms 1 rfl) rfl
theorem qs2 : (Cond.selects "FirstIn$Reader" ⟨"FirstIn$Reader", "wrong", "()LFirstIn$Fault;"⟩ ⟨"FirstIn$Reader", "wrong", "()LFirstIn$Fault;"⟩) ∈ lw_all := lw_g (lw_at lw_ms 2 rfl) rfl
theorem qs3 : (Cond.selects "java/lang/Throwable" ⟨"java/lang/Throwable", "fillInStackTrace", "(I)Ljava/lang/Throwable;"⟩ ⟨"java/lang/Throwable", "fillInStackTrace", "(I)Ljava/lang/Throwable;"⟩) ∈ lw_all := lw_g (lw_at lw_ms 3 rfl) rfl
theorem qs4 : (Cond.selects "FirstIn$Reader" ⟨"FirstIn$Reader", "line", "()V"⟩ ⟨"FirstIn$Reader", "line", "()V"⟩) ∈ lw_all := lw_g (lw_at lw_ms 4 rfl) rfl
theorem qs5 : (Cond.selects "FirstIn$Reader" ⟨"FirstIn$Reader", "word", "()I"⟩ ⟨"FirstIn$Reader", "word", "()I"⟩) ∈ lw_all := lw_g (lw_at lw_ms 5 rfl) rfl
theorem qs6 : (Cond.selects "FirstIn$Reader" ⟨"FirstIn$Reader", "isWord", "()Z"⟩ ⟨"FirstIn$Reader", "isWord", "()Z"⟩) ∈ lw_all := lw_g (lw_at lw_ms 6 rfl) rfl
theorem qs7 : (Cond.selects "FirstIn$Reader" ⟨"FirstIn$Reader", "isOver", "()Z"⟩ ⟨"FirstIn$Reader", "isOver", "()Z"⟩) ∈ lw_all := lw_g (lw_at lw_ms 7 rfl) rfl
theorem qs8 : (Cond.selects "FirstIn$Reader" ⟨"FirstIn$Reader", "newName", "()[B"⟩ ⟨"FirstIn$Reader", "newName", "()[B"⟩) ∈ lw_all := lw_g (lw_at lw_ms 8 rfl) rfl
theorem qs9 : (Cond.selects "FirstIn$Reader" ⟨"FirstIn$Reader", "isName", "()Z"⟩ ⟨"FirstIn$Reader", "isName", "()Z"⟩) ∈ lw_all := lw_g (lw_at lw_ms 9 rfl) rfl
theorem qs10 : (Cond.selects "FirstIn$Reader" ⟨"FirstIn$Reader", "guestHere", "()LFirstIn$Guest;"⟩ ⟨"FirstIn$Reader", "guestHere", "()LFirstIn$Guest;"⟩) ∈ lw_all := lw_g (lw_at lw_ms 10 rfl) rfl
theorem qs11 : (Cond.selects "FirstIn$Reader" ⟨"FirstIn$Reader", "markHere", "()LFirstIn$Mark;"⟩ ⟨"FirstIn$Reader", "markHere", "()LFirstIn$Mark;"⟩) ∈ lw_all := lw_g (lw_at lw_ms 11 rfl) rfl
theorem qs12 : (Cond.selects "java/util/ArrayList" ⟨"java/util/ArrayList", "add", "(Ljava/lang/Object;[Ljava/lang/Object;I)V"⟩ ⟨"java/util/ArrayList", "add", "(Ljava/lang/Object;[Ljava/lang/Object;I)V"⟩) ∈ lw_all := lw_g (lw_at lw_ms 12 rfl) rfl
theorem qs13 : (Cond.selects "java/util/ArrayList" ⟨"java/util/ArrayList", "grow", "()[Ljava/lang/Object;"⟩ ⟨"java/util/ArrayList", "grow", "()[Ljava/lang/Object;"⟩) ∈ lw_all := lw_g (lw_at lw_ms 13 rfl) rfl
theorem qs14 : (Cond.selects "java/util/ArrayList" ⟨"java/util/ArrayList", "grow", "(I)[Ljava/lang/Object;"⟩ ⟨"java/util/ArrayList", "grow", "(I)[Ljava/lang/Object;"⟩) ∈ lw_all := lw_g (lw_at lw_ms 14 rfl) rfl
theorem qs15 : (Cond.selects "FirstIn$Reader" ⟨"FirstIn$Reader", "mark", "()V"⟩ ⟨"FirstIn$Reader", "mark", "()V"⟩) ∈ lw_all := lw_g (lw_at lw_ms 15 rfl) rfl
theorem qs16 : (Cond.selects "FirstIn$Reader" ⟨"FirstIn$Reader", "needsWord", "(I)V"⟩ ⟨"FirstIn$Reader", "needsWord", "(I)V"⟩) ∈ lw_all := lw_g (lw_at lw_ms 16 rfl) rfl
theorem qs17 : (Cond.selects "FirstIn$Reader" ⟨"FirstIn$Reader", "member", "(LFirstIn$Mark;)V"⟩ ⟨"FirstIn$Reader", "member", "(LFirstIn$Mark;)V"⟩) ∈ lw_all := lw_g (lw_at lw_ms 17 rfl) rfl
theorem qs18 : (Cond.selects "FirstIn$Reader" ⟨"FirstIn$Reader", "rule", "(I)V"⟩ ⟨"FirstIn$Reader", "rule", "(I)V"⟩) ∈ lw_all := lw_g (lw_at lw_ms 18 rfl) rfl
theorem qs19 : (Cond.selects "FirstIn$Reader" ⟨"FirstIn$Reader", "side", "()LFirstIn$Side;"⟩ ⟨"FirstIn$Reader", "side", "()LFirstIn$Side;"⟩) ∈ lw_all := lw_g (lw_at lw_ms 19 rfl) rfl
theorem qs20 : (Cond.selects "FirstIn$Reader" ⟨"FirstIn$Reader", "number", "(II)I"⟩ ⟨"FirstIn$Reader", "number", "(II)I"⟩) ∈ lw_all := lw_g (lw_at lw_ms 20 rfl) rfl
theorem qs21 : (Cond.selects "FirstIn$Reader" ⟨"FirstIn$Reader", "over", "()V"⟩ ⟨"FirstIn$Reader", "over", "()V"⟩) ∈ lw_all := lw_g (lw_at lw_ms 21 rfl) rfl
theorem qs22 : (Cond.selects "FirstIn" ⟨"FirstIn", "guestAt", "(I)LFirstIn$Guest;"⟩ ⟨"FirstIn", "guestAt", "(I)LFirstIn$Guest;"⟩) ∈ lw_all := lw_g (lw_at lw_ms 22 rfl) rfl
theorem qs23 : (Cond.selects "FirstIn" ⟨"FirstIn", "ruleAt", "(I)LFirstIn$Rule;"⟩ ⟨"FirstIn", "ruleAt", "(I)LFirstIn$Rule;"⟩) ∈ lw_all := lw_g (lw_at lw_ms 23 rfl) rfl
theorem qs24 : (Cond.selects "FirstIn" ⟨"FirstIn", "roomAt", "(I)LFirstIn$Room;"⟩ ⟨"FirstIn", "roomAt", "(I)LFirstIn$Room;"⟩) ∈ lw_all := lw_g (lw_at lw_ms 24 rfl) rfl
theorem qs25 : (Cond.selects "FirstIn" ⟨"FirstIn", "who", "(II)LFirstIn$Guest;"⟩ ⟨"FirstIn", "who", "(II)LFirstIn$Guest;"⟩) ∈ lw_all := lw_g (lw_at lw_ms 25 rfl) rfl
theorem qs26 : (Cond.selects "FirstIn" ⟨"FirstIn", "sourceOf", "(III)I"⟩ ⟨"FirstIn", "sourceOf", "(III)I"⟩) ∈ lw_all := lw_g (lw_at lw_ms 26 rfl) rfl
theorem qs27 : (Cond.selects "FirstIn" ⟨"FirstIn", "hasCouple", "(LFirstIn$Rule;II)Z"⟩ ⟨"FirstIn", "hasCouple", "(LFirstIn$Rule;II)Z"⟩) ∈ lw_all := lw_g (lw_at lw_ms 27 rfl) rfl
theorem qs28 : (Cond.selects "FirstIn" ⟨"FirstIn", "areComing", "(LFirstIn$Couple;)Z"⟩ ⟨"FirstIn", "areComing", "(LFirstIn$Couple;)Z"⟩) ∈ lw_all := lw_g (lw_at lw_ms 28 rfl) rfl
theorem qs29 : (Cond.selects "FirstIn" ⟨"FirstIn", "isCourse", "(II)Z"⟩ ⟨"FirstIn", "isCourse", "(II)Z"⟩) ∈ lw_all := lw_g (lw_at lw_ms 29 rfl) rfl
theorem qs30 : (Cond.selects "FirstIn" ⟨"FirstIn", "slightsIn", "(III)Ljava/util/ArrayList;"⟩ ⟨"FirstIn", "slightsIn", "(III)Ljava/util/ArrayList;"⟩) ∈ lw_all := lw_g (lw_at lw_ms 30 rfl) rfl
theorem qs31 : (Cond.selects "FirstIn" ⟨"FirstIn", "findAbove", "(II)V"⟩ ⟨"FirstIn", "findAbove", "(II)V"⟩) ∈ lw_all := lw_g (lw_at lw_ms 31 rfl) rfl
theorem qs32 : (Cond.selects "FirstIn" ⟨"FirstIn", "findSteps", "(I)V"⟩ ⟨"FirstIn", "findSteps", "(I)V"⟩) ∈ lw_all := lw_g (lw_at lw_ms 32 rfl) rfl
theorem qs33 : (Cond.selects "FirstIn" ⟨"FirstIn", "isAbove", "(II)Z"⟩ ⟨"FirstIn", "isAbove", "(II)Z"⟩) ∈ lw_all := lw_g (lw_at lw_ms 33 rfl) rfl
theorem qs34 : (Cond.selects "FirstIn" ⟨"FirstIn", "isAboveOnly", "(II)Z"⟩ ⟨"FirstIn", "isAboveOnly", "(II)Z"⟩) ∈ lw_all := lw_g (lw_at lw_ms 34 rfl) rfl
theorem qs35 : (Cond.selects "FirstIn" ⟨"FirstIn", "weightOf", "(I)I"⟩ ⟨"FirstIn", "weightOf", "(I)I"⟩) ∈ lw_all := lw_g (lw_at lw_ms 35 rfl) rfl
theorem qs36 : (Cond.selects "FirstIn" ⟨"FirstIn", "hasRing", "()Z"⟩ ⟨"FirstIn", "hasRing", "()Z"⟩) ∈ lw_all := lw_g (lw_at lw_ms 36 rfl) rfl
theorem qs37 : (Cond.selects "FirstIn" ⟨"FirstIn", "coming", "()Ljava/util/ArrayList;"⟩ ⟨"FirstIn", "coming", "()Ljava/util/ArrayList;"⟩) ∈ lw_all := lw_g (lw_at lw_ms 37 rfl) rfl
theorem qs38 : (Cond.selects "FirstIn" ⟨"FirstIn", "isHeldBack", "(Ljava/util/ArrayList;I)Z"⟩ ⟨"FirstIn", "isHeldBack", "(Ljava/util/ArrayList;I)Z"⟩) ∈ lw_all := lw_g (lw_at lw_ms 38 rfl) rfl
theorem qs39 : (Cond.selects "java/util/ArrayList" ⟨"java/util/ArrayList", "fastRemove", "([Ljava/lang/Object;I)V"⟩ ⟨"java/util/ArrayList", "fastRemove", "([Ljava/lang/Object;I)V"⟩) ∈ lw_all := lw_g (lw_at lw_ms 39 rfl) rfl
theorem qs40 : (Cond.selects "FirstIn" ⟨"FirstIn", "findTogether", "(I)V"⟩ ⟨"FirstIn", "findTogether", "(I)V"⟩) ∈ lw_all := lw_g (lw_at lw_ms 40 rfl) rfl
theorem qs41 : (Cond.selects "FirstIn" ⟨"FirstIn", "isEven", "(LFirstIn$Rule;I)Z"⟩ ⟨"FirstIn", "isEven", "(LFirstIn$Rule;I)Z"⟩) ∈ lw_all := lw_g (lw_at lw_ms 41 rfl) rfl
theorem qs42 : (Cond.selects "FirstIn" ⟨"FirstIn", "mayGo", "(II[I[I)Z"⟩ ⟨"FirstIn", "mayGo", "(II[I[I)Z"⟩) ∈ lw_all := lw_g (lw_at lw_ms 42 rfl) rfl
theorem qs43 : (Cond.selects "FirstIn" ⟨"FirstIn", "isHeap", "(II)Z"⟩ ⟨"FirstIn", "isHeap", "(II)Z"⟩) ∈ lw_all := lw_g (lw_at lw_ms 43 rfl) rfl
theorem qs44 : (Cond.selects "FirstIn" ⟨"FirstIn", "heaps", "(Ljava/util/ArrayList;II[Z)V"⟩ ⟨"FirstIn", "heaps", "(Ljava/util/ArrayList;II[Z)V"⟩) ∈ lw_all := lw_g (lw_at lw_ms 44 rfl) rfl
theorem qs45 : (Cond.selects "FirstIn" ⟨"FirstIn", "canBeAsked", "(I)Z"⟩ ⟨"FirstIn", "canBeAsked", "(I)Z"⟩) ∈ lw_all := lw_g (lw_at lw_ms 45 rfl) rfl
theorem qs46 : (Cond.selects "FirstIn" ⟨"FirstIn", "findLeast", "(I)LFirstIn$Least;"⟩ ⟨"FirstIn", "findLeast", "(I)LFirstIn$Least;"⟩) ∈ lw_all := lw_g (lw_at lw_ms 46 rfl) rfl
theorem qs47 : (Cond.selects "FirstIn" ⟨"FirstIn", "bonds", "(I)Ljava/util/ArrayList;"⟩ ⟨"FirstIn", "bonds", "(I)Ljava/util/ArrayList;"⟩) ∈ lw_all := lw_g (lw_at lw_ms 47 rfl) rfl
theorem qs48 : (Cond.selects "FirstIn" ⟨"FirstIn", "findMildest", "(I)LFirstIn$Mildest;"⟩ ⟨"FirstIn", "findMildest", "(I)LFirstIn$Mildest;"⟩) ∈ lw_all := lw_g (lw_at lw_ms 48 rfl) rfl
theorem qs49 : (Cond.selects "FirstInModel" ⟨"FirstInModel", "feeds", "(I)V"⟩ ⟨"FirstInModel", "feeds", "(I)V"⟩) ∈ lw_all := lw_g (lw_at lw_ms 49 rfl) rfl
theorem qs50 : (Cond.selects "FirstInModel" ⟨"FirstInModel", "reads", "()V"⟩ ⟨"FirstInModel", "reads", "()V"⟩) ∈ lw_all := lw_g (lw_at lw_ms 50 rfl) rfl
theorem qs51 : (Cond.selects "FirstInModel" ⟨"FirstInModel", "next", "()V"⟩ ⟨"FirstInModel", "next", "()V"⟩) ∈ lw_all := lw_g (lw_at lw_ms 51 rfl) rfl
theorem qs52 : (Cond.selects "FirstInModel" ⟨"FirstInModel", "between", "(III)Z"⟩ ⟨"FirstInModel", "between", "(III)Z"⟩) ∈ lw_all := lw_g (lw_at lw_ms 52 rfl) rfl
theorem qs53 : (Cond.selects "FirstInModel" ⟨"FirstInModel", "line", "()Z"⟩ ⟨"FirstInModel", "line", "()Z"⟩) ∈ lw_all := lw_g (lw_at lw_ms 53 rfl) rfl
theorem qs54 : (Cond.selects "FirstInModel" ⟨"FirstInModel", "isWord", "(I)Z"⟩ ⟨"FirstInModel", "isWord", "(I)Z"⟩) ∈ lw_all := lw_g (lw_at lw_ms 54 rfl) rfl
theorem qs55 : (Cond.selects "FirstInModel" ⟨"FirstInModel", "passes", "(Z)Z"⟩ ⟨"FirstInModel", "passes", "(Z)Z"⟩) ∈ lw_all := lw_g (lw_at lw_ms 55 rfl) rfl
theorem qs56 : (Cond.selects "FirstInModel" ⟨"FirstInModel", "guestRead", "()Z"⟩ ⟨"FirstInModel", "guestRead", "()Z"⟩) ∈ lw_all := lw_g (lw_at lw_ms 56 rfl) rfl
theorem qs57 : (Cond.selects "FirstInModel" ⟨"FirstInModel", "named", "()J"⟩ ⟨"FirstInModel", "named", "()J"⟩) ∈ lw_all := lw_g (lw_at lw_ms 57 rfl) rfl
theorem qs58 : (Cond.selects "FirstInModel" ⟨"FirstInModel", "isNew", "(J)Z"⟩ ⟨"FirstInModel", "isNew", "(J)Z"⟩) ∈ lw_all := lw_g (lw_at lw_ms 58 rfl) rfl
theorem qs59 : (Cond.selects "FirstInModel" ⟨"FirstInModel", "guestOf", "(J)I"⟩ ⟨"FirstInModel", "guestOf", "(J)I"⟩) ∈ lw_all := lw_g (lw_at lw_ms 59 rfl) rfl
theorem qs60 : (Cond.selects "FirstInModel" ⟨"FirstInModel", "markOf", "(J)I"⟩ ⟨"FirstInModel", "markOf", "(J)I"⟩) ∈ lw_all := lw_g (lw_at lw_ms 60 rfl) rfl
theorem qs61 : (Cond.selects "FirstInModel" ⟨"FirstInModel", "closes", "()Z"⟩ ⟨"FirstInModel", "closes", "()Z"⟩) ∈ lw_all := lw_g (lw_at lw_ms 61 rfl) rfl
theorem qs62 : (Cond.selects "FirstInModel" ⟨"FirstInModel", "markRead", "()Z"⟩ ⟨"FirstInModel", "markRead", "()Z"⟩) ∈ lw_all := lw_g (lw_at lw_ms 62 rfl) rfl
theorem qs63 : (Cond.selects "FirstInModel" ⟨"FirstInModel", "ruleRead", "(I)Z"⟩ ⟨"FirstInModel", "ruleRead", "(I)Z"⟩) ∈ lw_all := lw_g (lw_at lw_ms 63 rfl) rfl
theorem qs64 : (Cond.selects "FirstInModel" ⟨"FirstInModel", "someone", "()Z"⟩ ⟨"FirstInModel", "someone", "()Z"⟩) ∈ lw_all := lw_g (lw_at lw_ms 64 rfl) rfl
theorem qs65 : (Cond.selects "FirstInModel" ⟨"FirstInModel", "number", "(II)Z"⟩ ⟨"FirstInModel", "number", "(II)Z"⟩) ∈ lw_all := lw_g (lw_at lw_ms 65 rfl) rfl
theorem qs66 : (Cond.selects "FirstInModel" ⟨"FirstInModel", "isGuest", "(I)Z"⟩ ⟨"FirstInModel", "isGuest", "(I)Z"⟩) ∈ lw_all := lw_g (lw_at lw_ms 66 rfl) rfl
theorem qs67 : (Cond.selects "FirstInModel" ⟨"FirstInModel", "marksOf", "(I)I"⟩ ⟨"FirstInModel", "marksOf", "(I)I"⟩) ∈ lw_all := lw_g (lw_at lw_ms 67 rfl) rfl
theorem qs68 : (Cond.selects "FirstInModel" ⟨"FirstInModel", "isRule", "(I)Z"⟩ ⟨"FirstInModel", "isRule", "(I)Z"⟩) ∈ lw_all := lw_g (lw_at lw_ms 68 rfl) rfl
theorem qs69 : (Cond.selects "FirstInModel" ⟨"FirstInModel", "hasCouple", "(III)Z"⟩ ⟨"FirstInModel", "hasCouple", "(III)Z"⟩) ∈ lw_all := lw_g (lw_at lw_ms 69 rfl) rfl
theorem qs70 : (Cond.selects "FirstInModel" ⟨"FirstInModel", "couples", "(III)Z"⟩ ⟨"FirstInModel", "couples", "(III)Z"⟩) ∈ lw_all := lw_g (lw_at lw_ms 70 rfl) rfl
theorem qs71 : (Cond.selects "FirstInModel" ⟨"FirstInModel", "isOf", "(II)Z"⟩ ⟨"FirstInModel", "isOf", "(II)Z"⟩) ∈ lw_all := lw_g (lw_at lw_ms 71 rfl) rfl
theorem qs72 : (Cond.selects "FirstInModel" ⟨"FirstInModel", "isRoom", "(I)Z"⟩ ⟨"FirstInModel", "isRoom", "(I)Z"⟩) ∈ lw_all := lw_g (lw_at lw_ms 72 rfl) rfl
theorem qs73 : (Cond.selects "FirstInModel" ⟨"FirstInModel", "isCourse", "(I)Z"⟩ ⟨"FirstInModel", "isCourse", "(I)Z"⟩) ∈ lw_all := lw_g (lw_at lw_ms 73 rfl) rfl
theorem qs74 : (Cond.selects "FirstInModel" ⟨"FirstInModel", "high", "(IIII)I"⟩ ⟨"FirstInModel", "high", "(IIII)I"⟩) ∈ lw_all := lw_g (lw_at lw_ms 74 rfl) rfl
theorem qs75 : (Cond.selects "FirstInModel" ⟨"FirstInModel", "finds", "(III)V"⟩ ⟨"FirstInModel", "finds", "(III)V"⟩) ∈ lw_all := lw_g (lw_at lw_ms 75 rfl) rfl
theorem qs76 : (Cond.selects "FirstInModel" ⟨"FirstInModel", "countsFor", "(IIII)Z"⟩ ⟨"FirstInModel", "countsFor", "(IIII)Z"⟩) ∈ lw_all := lw_g (lw_at lw_ms 76 rfl) rfl
theorem qs77 : (Cond.selects "FirstInModel" ⟨"FirstInModel", "counts", "(II)Z"⟩ ⟨"FirstInModel", "counts", "(II)Z"⟩) ∈ lw_all := lw_g (lw_at lw_ms 77 rfl) rfl
theorem qs78 : (Cond.selects "FirstInModel" ⟨"FirstInModel", "whoMinds", "(IIIII)I"⟩ ⟨"FirstInModel", "whoMinds", "(IIIII)I"⟩) ∈ lw_all := lw_g (lw_at lw_ms 78 rfl) rfl
theorem qs79 : (Cond.selects "FirstInModel" ⟨"FirstInModel", "beside", "(III)Z"⟩ ⟨"FirstInModel", "beside", "(III)Z"⟩) ∈ lw_all := lw_g (lw_at lw_ms 79 rfl) rfl
theorem qs80 : (Cond.selects "FirstInModel" ⟨"FirstInModel", "sourceOf", "(IIII)I"⟩ ⟨"FirstInModel", "sourceOf", "(IIII)I"⟩) ∈ lw_all := lw_g (lw_at lw_ms 80 rfl) rfl
theorem qs81 : (Cond.selects "FirstInModel" ⟨"FirstInModel", "ranks", "(II)V"⟩ ⟨"FirstInModel", "ranks", "(II)V"⟩) ∈ lw_all := lw_g (lw_at lw_ms 81 rfl) rfl
theorem qs82 : (Cond.selects "FirstInModel" ⟨"FirstInModel", "all", "()I"⟩ ⟨"FirstInModel", "all", "()I"⟩) ∈ lw_all := lw_g (lw_at lw_ms 82 rfl) rfl
theorem qs83 : (Cond.selects "FirstInModel" ⟨"FirstInModel", "through", "(II)I"⟩ ⟨"FirstInModel", "through", "(II)I"⟩) ∈ lw_all := lw_g (lw_at lw_ms 83 rfl) rfl
theorem qs84 : (Cond.selects "FirstInModel" ⟨"FirstInModel", "leads", "(II)V"⟩ ⟨"FirstInModel", "leads", "(II)V"⟩) ∈ lw_all := lw_g (lw_at lw_ms 84 rfl) rfl
theorem qs85 : (Cond.selects "FirstInModel" ⟨"FirstInModel", "hasRing", "(I)Z"⟩ ⟨"FirstInModel", "hasRing", "(I)Z"⟩) ∈ lw_all := lw_g (lw_at lw_ms 85 rfl) rfl
theorem qs86 : (Cond.selects "FirstInModel" ⟨"FirstInModel", "comingBits", "()I"⟩ ⟨"FirstInModel", "comingBits", "()I"⟩) ∈ lw_all := lw_g (lw_at lw_ms 86 rfl) rfl
theorem qs87 : (Cond.selects "FirstInModel" ⟨"FirstInModel", "isFree", "(II)Z"⟩ ⟨"FirstInModel", "isFree", "(II)Z"⟩) ∈ lw_all := lw_g (lw_at lw_ms 87 rfl) rfl
theorem qs88 : (Cond.selects "FirstInModel" ⟨"FirstInModel", "groups", "()I"⟩ ⟨"FirstInModel", "groups", "()I"⟩) ∈ lw_all := lw_g (lw_at lw_ms 88 rfl) rfl
theorem qs89 : (Cond.selects "FirstInModel" ⟨"FirstInModel", "bitsOf", "(II)I"⟩ ⟨"FirstInModel", "bitsOf", "(II)I"⟩) ∈ lw_all := lw_g (lw_at lw_ms 89 rfl) rfl
theorem qs90 : (Cond.selects "FirstInModel" ⟨"FirstInModel", "mayGo", "(II)Z"⟩ ⟨"FirstInModel", "mayGo", "(II)Z"⟩) ∈ lw_all := lw_g (lw_at lw_ms 90 rfl) rfl
theorem qs91 : (Cond.selects "FirstInModel" ⟨"FirstInModel", "isQuiet", "(I)Z"⟩ ⟨"FirstInModel", "isQuiet", "(I)Z"⟩) ∈ lw_all := lw_g (lw_at lw_ms 91 rfl) rfl
theorem qs92 : (Cond.selects "FirstInModel" ⟨"FirstInModel", "parts", "(III)Z"⟩ ⟨"FirstInModel", "parts", "(III)Z"⟩) ∈ lw_all := lw_g (lw_at lw_ms 92 rfl) rfl
theorem qs93 : (Cond.selects "FirstInModel" ⟨"FirstInModel", "goesThrough", "(IZ)Z"⟩ ⟨"FirstInModel", "goesThrough", "(IZ)Z"⟩) ∈ lw_all := lw_g (lw_at lw_ms 93 rfl) rfl
theorem qs94 : (Cond.selects "FirstInModel" ⟨"FirstInModel", "weighPlaces", "(I)V"⟩ ⟨"FirstInModel", "weighPlaces", "(I)V"⟩) ∈ lw_all := lw_g (lw_at lw_ms 94 rfl) rfl
theorem qs95 : (Cond.selects "FirstInModel" ⟨"FirstInModel", "weighPair", "(IIIII)V"⟩ ⟨"FirstInModel", "weighPair", "(IIIII)V"⟩) ∈ lw_all := lw_g (lw_at lw_ms 95 rfl) rfl
theorem qs96 : (Cond.selects "FirstInModel" ⟨"FirstInModel", "seatsFrom", "(IIII)V"⟩ ⟨"FirstInModel", "seatsFrom", "(IIII)V"⟩) ∈ lw_all := lw_g (lw_at lw_ms 96 rfl) rfl
theorem qs97 : (Cond.selects "FirstInModel" ⟨"FirstInModel", "meets", "(II)V"⟩ ⟨"FirstInModel", "meets", "(II)V"⟩) ∈ lw_all := lw_g (lw_at lw_ms 97 rfl) rfl
theorem qs98 : (Cond.selects "FirstInModel" ⟨"FirstInModel", "keepsIn", "([I)V"⟩ ⟨"FirstInModel", "keepsIn", "([I)V"⟩) ∈ lw_all := lw_g (lw_at lw_ms 98 rfl) rfl
theorem qs99 : (Cond.selects "FirstInModel" ⟨"FirstInModel", "staysElsewhere", "(II)Z"⟩ ⟨"FirstInModel", "staysElsewhere", "(II)Z"⟩) ∈ lw_all := lw_g (lw_at lw_ms 99 rfl) rfl
theorem qs100 : (Cond.selects "FirstInModel" ⟨"FirstInModel", "memberOf", "(I)I"⟩ ⟨"FirstInModel", "memberOf", "(I)I"⟩) ∈ lw_all := lw_g (lw_at lw_ms 100 rfl) rfl
