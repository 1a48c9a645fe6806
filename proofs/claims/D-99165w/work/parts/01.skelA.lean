-- ===== PART A: goes FIRST, ahead of the names: the tables' words, and 'selects' of the private methods out of them =====
/-- a private method of a class that the tables say can be made, by its rows of tables_1 -/
def lw_okq (q : MethodName × Nat) : Prop := (q.1.cls ≠ "java/lang/invoke/MethodHandle" ∧ q.1.cls ≠ "java/lang/invoke/VarHandle") ∧ Cond.instantiable q.1.cls q.2 ∈ tables_1 ∧ Cond.privateMethod q.1 ∈ tables_1 ∧ Cond.instanceMethod q.1 ∈ tables_1
set_option maxRecDepth 100000
theorem lw_t1 {w : Cond} (h : w ∈ tables_1_1) : w ∈ tables_1 := List.mem_append_left _ h
theorem lw_t2 {w : Cond} (h : w ∈ tables_1_2) : w ∈ tables_1 := List.mem_append_right _ (List.mem_append_left _ h)
theorem lw_t3 {w : Cond} (h : w ∈ tables_1_3) : w ∈ tables_1 := List.mem_append_right _ (List.mem_append_right _ (List.mem_append_left _ h))
theorem lw_t4 {w : Cond} (h : w ∈ tables_1_4) : w ∈ tables_1 := List.mem_append_right _ (List.mem_append_right _ (List.mem_append_right _ (List.mem_append_left _ h)))
theorem lw_t5 {w : Cond} (h : w ∈ tables_1_5) : w ∈ tables_1 := List.mem_append_right _ (List.mem_append_right _ (List.mem_append_right _ (List.mem_append_right _ (List.mem_append_left _ h))))
theorem lw_t6 {w : Cond} (h : w ∈ tables_1_6) : w ∈ tables_1 := List.mem_append_right _ (List.mem_append_right _ (List.mem_append_right _ (List.mem_append_right _ (List.mem_append_right _ (List.mem_append_left _ h)))))
theorem lw_t7 {w : Cond} (h : w ∈ tables_1_7) : w ∈ tables_1 := List.mem_append_right _ (List.mem_append_right _ (List.mem_append_right _ (List.mem_append_right _ (List.mem_append_right _ (List.mem_append_right _ h)))))
theorem lw_p0 : lw_okq (⟨"TalkingPlots", "push", "(I)V"⟩, 20) := ⟨⟨by decide +kernel, by decide +kernel⟩, lw_t1 (List.mem_of_getElem? (i := 28) rfl), lw_t2 (List.mem_of_getElem? (i := 9) rfl), lw_t2 (List.mem_of_getElem? (i := 10) rfl)⟩
theorem lw_p1 : lw_okq (⟨"TalkingPlots$Reader", "isGood", "()Z"⟩, 7) := ⟨⟨by decide +kernel, by decide +kernel⟩, lw_t2 (List.mem_of_getElem? (i := 17) rfl), lw_t2 (List.mem_of_getElem? (i := 52) rfl), lw_t2 (List.mem_of_getElem? (i := 53) rfl)⟩
theorem lw_p2 : lw_okq (⟨"TalkingPlots$Reader", "clause", "()V"⟩, 7) := ⟨⟨by decide +kernel, by decide +kernel⟩, lw_t2 (List.mem_of_getElem? (i := 17) rfl), lw_t2 (List.mem_of_getElem? (i := 56) rfl), lw_t2 (List.mem_of_getElem? (i := 57) rfl)⟩
theorem lw_p3 : lw_okq (⟨"TalkingPlots$Reader", "here", "()I"⟩, 7) := ⟨⟨by decide +kernel, by decide +kernel⟩, lw_t2 (List.mem_of_getElem? (i := 17) rfl), lw_t2 (List.mem_of_getElem? (i := 60) rfl), lw_t2 (List.mem_of_getElem? (i := 61) rfl)⟩
theorem lw_p4 : lw_okq (⟨"TalkingPlots$Reader", "bad", "(II)V"⟩, 7) := ⟨⟨by decide +kernel, by decide +kernel⟩, lw_t2 (List.mem_of_getElem? (i := 17) rfl), lw_t2 (List.mem_of_getElem? (i := 151) rfl), lw_t2 (List.mem_of_getElem? (i := 152) rfl)⟩
theorem lw_p5 : lw_okq (⟨"TalkingPlots$Reader", "sum", "()LTalkingPlots$Sum;"⟩, 7) := ⟨⟨by decide +kernel, by decide +kernel⟩, lw_t2 (List.mem_of_getElem? (i := 17) rfl), lw_t2 (List.mem_of_getElem? (i := 155) rfl), lw_t2 (List.mem_of_getElem? (i := 156) rfl)⟩
theorem lw_p6 : lw_okq (⟨"TalkingPlots$Reader", "product", "()LTalkingPlots$Sum;"⟩, 7) := ⟨⟨by decide +kernel, by decide +kernel⟩, lw_t2 (List.mem_of_getElem? (i := 17) rfl), lw_t2 (List.mem_of_getElem? (i := 161) rfl), lw_t2 (List.mem_of_getElem? (i := 162) rfl)⟩
theorem lw_p7 : lw_okq (⟨"TalkingPlots$Reader", "factor", "()LTalkingPlots$Sum;"⟩, 7) := ⟨⟨by decide +kernel, by decide +kernel⟩, lw_t2 (List.mem_of_getElem? (i := 17) rfl), lw_t2 (List.mem_of_getElem? (i := 165) rfl), lw_t2 (List.mem_of_getElem? (i := 166) rfl)⟩
theorem lw_p8 : lw_okq (⟨"TalkingPlots$Reader", "opens", "()V"⟩, 7) := ⟨⟨by decide +kernel, by decide +kernel⟩, lw_t2 (List.mem_of_getElem? (i := 17) rfl), lw_t2 (List.mem_of_getElem? (i := 169) rfl), lw_t2 (List.mem_of_getElem? (i := 170) rfl)⟩
theorem lw_p9 : lw_okq (⟨"TalkingPlots$Reader", "must", "(I)V"⟩, 7) := ⟨⟨by decide +kernel, by decide +kernel⟩, lw_t2 (List.mem_of_getElem? (i := 17) rfl), lw_t2 (List.mem_of_getElem? (i := 173) rfl), lw_t2 (List.mem_of_getElem? (i := 174) rfl)⟩
theorem lw_p10 : lw_okq (⟨"TalkingPlots$Reader", "seesDigit", "()Z"⟩, 7) := ⟨⟨by decide +kernel, by decide +kernel⟩, lw_t2 (List.mem_of_getElem? (i := 17) rfl), lw_t2 (List.mem_of_getElem? (i := 177) rfl), lw_t2 (List.mem_of_getElem? (i := 178) rfl)⟩
theorem lw_p11 : lw_okq (⟨"TalkingPlots$Reader", "number", "()I"⟩, 7) := ⟨⟨by decide +kernel, by decide +kernel⟩, lw_t2 (List.mem_of_getElem? (i := 17) rfl), lw_t2 (List.mem_of_getElem? (i := 183) rfl), lw_t2 (List.mem_of_getElem? (i := 184) rfl)⟩
theorem lw_p12 : lw_okq (⟨"TalkingPlots$Reader", "condition", "()LTalkingPlots$Condition;"⟩, 7) := ⟨⟨by decide +kernel, by decide +kernel⟩, lw_t2 (List.mem_of_getElem? (i := 17) rfl), lw_t2 (List.mem_of_getElem? (i := 224) rfl), lw_t2 (List.mem_of_getElem? (i := 225) rfl)⟩
theorem lw_p13 : lw_okq (⟨"TalkingPlots$Reader", "pieces", "()LTalkingPlots$Condition;"⟩, 7) := ⟨⟨by decide +kernel, by decide +kernel⟩, lw_t2 (List.mem_of_getElem? (i := 17) rfl), lw_t2 (List.mem_of_getElem? (i := 230) rfl), lw_t2 (List.mem_of_getElem? (i := 231) rfl)⟩
theorem lw_p14 : lw_okq (⟨"TalkingPlots$Reader", "piece", "()LTalkingPlots$Condition;"⟩, 7) := ⟨⟨by decide +kernel, by decide +kernel⟩, lw_t2 (List.mem_of_getElem? (i := 17) rfl), lw_t2 (List.mem_of_getElem? (i := 234) rfl), lw_t2 (List.mem_of_getElem? (i := 235) rfl)⟩
theorem lw_p15 : lw_okq (⟨"TalkingPlots", "isTold", "(I)Z"⟩, 20) := ⟨⟨by decide +kernel, by decide +kernel⟩, lw_t1 (List.mem_of_getElem? (i := 28) rfl), lw_t3 (List.mem_of_getElem? (i := 138) rfl), lw_t3 (List.mem_of_getElem? (i := 139) rfl)⟩
def lw_privs_1 : List (MethodName × Nat) := [(⟨"TalkingPlots", "push", "(I)V"⟩, 20), (⟨"TalkingPlots$Reader", "isGood", "()Z"⟩, 7), (⟨"TalkingPlots$Reader", "clause", "()V"⟩, 7), (⟨"TalkingPlots$Reader", "here", "()I"⟩, 7), (⟨"TalkingPlots$Reader", "bad", "(II)V"⟩, 7), (⟨"TalkingPlots$Reader", "sum", "()LTalkingPlots$Sum;"⟩, 7), (⟨"TalkingPlots$Reader", "product", "()LTalkingPlots$Sum;"⟩, 7), (⟨"TalkingPlots$Reader", "factor", "()LTalkingPlots$Sum;"⟩, 7), (⟨"TalkingPlots$Reader", "opens", "()V"⟩, 7), (⟨"TalkingPlots$Reader", "must", "(I)V"⟩, 7), (⟨"TalkingPlots$Reader", "seesDigit", "()Z"⟩, 7), (⟨"TalkingPlots$Reader", "number", "()I"⟩, 7), (⟨"TalkingPlots$Reader", "condition", "()LTalkingPlots$Condition;"⟩, 7), (⟨"TalkingPlots$Reader", "pieces", "()LTalkingPlots$Condition;"⟩, 7), (⟨"TalkingPlots$Reader", "piece", "()LTalkingPlots$Condition;"⟩, 7), (⟨"TalkingPlots", "isTold", "(I)Z"⟩, 20)]
theorem lw_r1 : ∀ q ∈ lw_privs_1, lw_okq q := List.forall_mem_cons.mpr ⟨lw_p0, List.forall_mem_cons.mpr ⟨lw_p1, List.forall_mem_cons.mpr ⟨lw_p2, List.forall_mem_cons.mpr ⟨lw_p3, List.forall_mem_cons.mpr ⟨lw_p4, List.forall_mem_cons.mpr ⟨lw_p5, List.forall_mem_cons.mpr ⟨lw_p6, List.forall_mem_cons.mpr ⟨lw_p7, List.forall_mem_cons.mpr ⟨lw_p8, List.forall_mem_cons.mpr ⟨lw_p9, List.forall_mem_cons.mpr ⟨lw_p10, List.forall_mem_cons.mpr ⟨lw_p11, List.forall_mem_cons.mpr ⟨lw_p12, List.forall_mem_cons.mpr ⟨lw_p13, List.forall_mem_cons.mpr ⟨lw_p14, List.forall_mem_cons.mpr ⟨lw_p15, fun _ h => absurd h List.not_mem_nil⟩⟩⟩⟩⟩⟩⟩⟩⟩⟩⟩⟩⟩⟩⟩⟩
theorem lw_p16 : lw_okq (⟨"TalkingPlots$Sexton", "does", "(I)V"⟩, 6) := ⟨⟨by decide +kernel, by decide +kernel⟩, lw_t3 (List.mem_of_getElem? (i := 54) rfl), lw_t3 (List.mem_of_getElem? (i := 142) rfl), lw_t3 (List.mem_of_getElem? (i := 143) rfl)⟩
theorem lw_p17 : lw_okq (⟨"TalkingPlots$Sexton", "lays", "(I)V"⟩, 6) := ⟨⟨by decide +kernel, by decide +kernel⟩, lw_t3 (List.mem_of_getElem? (i := 54) rfl), lw_t3 (List.mem_of_getElem? (i := 156) rfl), lw_t3 (List.mem_of_getElem? (i := 157) rfl)⟩
theorem lw_p18 : lw_okq (⟨"TalkingPlots$Sexton", "changes", "(LTalkingPlots$Person;)V"⟩, 6) := ⟨⟨by decide +kernel, by decide +kernel⟩, lw_t3 (List.mem_of_getElem? (i := 54) rfl), lw_t3 (List.mem_of_getElem? (i := 168) rfl), lw_t3 (List.mem_of_getElem? (i := 169) rfl)⟩
theorem lw_p19 : lw_okq (⟨"TalkingPlots$Sexton", "topic", "(LTalkingPlots$Person;Z)V"⟩, 6) := ⟨⟨by decide +kernel, by decide +kernel⟩, lw_t3 (List.mem_of_getElem? (i := 54) rfl), lw_t3 (List.mem_of_getElem? (i := 172) rfl), lw_t3 (List.mem_of_getElem? (i := 173) rfl)⟩
theorem lw_p20 : lw_okq (⟨"TalkingPlots$Yard", "nightOf", "(I)V"⟩, 6) := ⟨⟨by decide +kernel, by decide +kernel⟩, lw_t1 (List.mem_of_getElem? (i := 75) rfl), lw_t3 (List.mem_of_getElem? (i := 239) rfl), lw_t4 (List.mem_of_getElem? (i := 0) rfl)⟩
theorem lw_p21 : lw_okq (⟨"TalkingPlots$Yard", "liked", "(I)I"⟩, 6) := ⟨⟨by decide +kernel, by decide +kernel⟩, lw_t1 (List.mem_of_getElem? (i := 75) rfl), lw_t4 (List.mem_of_getElem? (i := 71) rfl), lw_t4 (List.mem_of_getElem? (i := 72) rfl)⟩
theorem lw_p22 : lw_okq (⟨"TalkingPlots", "tells", "(II)I"⟩, 20) := ⟨⟨by decide +kernel, by decide +kernel⟩, lw_t1 (List.mem_of_getElem? (i := 28) rfl), lw_t4 (List.mem_of_getElem? (i := 88) rfl), lw_t4 (List.mem_of_getElem? (i := 89) rfl)⟩
theorem lw_p23 : lw_okq (⟨"TalkingPlots$Yard", "draw", "()I"⟩, 6) := ⟨⟨by decide +kernel, by decide +kernel⟩, lw_t1 (List.mem_of_getElem? (i := 75) rfl), lw_t4 (List.mem_of_getElem? (i := 109) rfl), lw_t4 (List.mem_of_getElem? (i := 110) rfl)⟩
theorem lw_p24 : lw_okq (⟨"TalkingPlots$Yard", "learns", "(LTalkingPlots$Person;LTalkingPlots$Person;)V"⟩, 6) := ⟨⟨by decide +kernel, by decide +kernel⟩, lw_t1 (List.mem_of_getElem? (i := 75) rfl), lw_t4 (List.mem_of_getElem? (i := 114) rfl), lw_t4 (List.mem_of_getElem? (i := 115) rfl)⟩
theorem lw_p25 : lw_okq (⟨"TalkingPlots", "silentIn", "(LTalkingPlots$Yard;)I"⟩, 20) := ⟨⟨by decide +kernel, by decide +kernel⟩, lw_t1 (List.mem_of_getElem? (i := 28) rfl), lw_t4 (List.mem_of_getElem? (i := 124) rfl), lw_t4 (List.mem_of_getElem? (i := 125) rfl)⟩
theorem lw_p26 : lw_okq (⟨"TalkingPlots", "rank", "(I)I"⟩, 20) := ⟨⟨by decide +kernel, by decide +kernel⟩, lw_t1 (List.mem_of_getElem? (i := 28) rfl), lw_t4 (List.mem_of_getElem? (i := 135) rfl), lw_t4 (List.mem_of_getElem? (i := 136) rfl)⟩
theorem lw_p27 : lw_okq (⟨"TalkingPlots", "talkAt", "(II)I"⟩, 20) := ⟨⟨by decide +kernel, by decide +kernel⟩, lw_t1 (List.mem_of_getElem? (i := 28) rfl), lw_t4 (List.mem_of_getElem? (i := 170) rfl), lw_t4 (List.mem_of_getElem? (i := 171) rfl)⟩
theorem lw_p28 : lw_okq (⟨"TalkingPlots", "swaps", "(LTalkingPlots$Person;LTalkingPlots$Person;)V"⟩, 20) := ⟨⟨by decide +kernel, by decide +kernel⟩, lw_t1 (List.mem_of_getElem? (i := 28) rfl), lw_t4 (List.mem_of_getElem? (i := 187) rfl), lw_t4 (List.mem_of_getElem? (i := 188) rfl)⟩
theorem lw_p29 : lw_okq (⟨"TalkingPlots", "holds", "(I)Z"⟩, 20) := ⟨⟨by decide +kernel, by decide +kernel⟩, lw_t1 (List.mem_of_getElem? (i := 28) rfl), lw_t4 (List.mem_of_getElem? (i := 195) rfl), lw_t4 (List.mem_of_getElem? (i := 196) rfl)⟩
theorem lw_p30 : lw_okq (⟨"TalkingPlots", "stands", "(IIIII)V"⟩, 20) := ⟨⟨by decide +kernel, by decide +kernel⟩, lw_t1 (List.mem_of_getElem? (i := 28) rfl), lw_t4 (List.mem_of_getElem? (i := 212) rfl), lw_t4 (List.mem_of_getElem? (i := 213) rfl)⟩
theorem lw_p31 : lw_okq (⟨"TalkingPlots", "allHold", "(II)Z"⟩, 20) := ⟨⟨by decide +kernel, by decide +kernel⟩, lw_t1 (List.mem_of_getElem? (i := 28) rfl), lw_t4 (List.mem_of_getElem? (i := 216) rfl), lw_t4 (List.mem_of_getElem? (i := 217) rfl)⟩
def lw_privs_2 : List (MethodName × Nat) := [(⟨"TalkingPlots$Sexton", "does", "(I)V"⟩, 6), (⟨"TalkingPlots$Sexton", "lays", "(I)V"⟩, 6), (⟨"TalkingPlots$Sexton", "changes", "(LTalkingPlots$Person;)V"⟩, 6), (⟨"TalkingPlots$Sexton", "topic", "(LTalkingPlots$Person;Z)V"⟩, 6), (⟨"TalkingPlots$Yard", "nightOf", "(I)V"⟩, 6), (⟨"TalkingPlots$Yard", "liked", "(I)I"⟩, 6), (⟨"TalkingPlots", "tells", "(II)I"⟩, 20), (⟨"TalkingPlots$Yard", "draw", "()I"⟩, 6), (⟨"TalkingPlots$Yard", "learns", "(LTalkingPlots$Person;LTalkingPlots$Person;)V"⟩, 6), (⟨"TalkingPlots", "silentIn", "(LTalkingPlots$Yard;)I"⟩, 20), (⟨"TalkingPlots", "rank", "(I)I"⟩, 20), (⟨"TalkingPlots", "talkAt", "(II)I"⟩, 20), (⟨"TalkingPlots", "swaps", "(LTalkingPlots$Person;LTalkingPlots$Person;)V"⟩, 20), (⟨"TalkingPlots", "holds", "(I)Z"⟩, 20), (⟨"TalkingPlots", "stands", "(IIIII)V"⟩, 20), (⟨"TalkingPlots", "allHold", "(II)Z"⟩, 20)]
theorem lw_r2 : ∀ q ∈ lw_privs_2, lw_okq q := List.forall_mem_cons.mpr ⟨lw_p16, List.forall_mem_cons.mpr ⟨lw_p17, List.forall_mem_cons.mpr ⟨lw_p18, List.forall_mem_cons.mpr ⟨lw_p19, List.forall_mem_cons.mpr ⟨lw_p20, List.forall_mem_cons.mpr ⟨lw_p21, List.forall_mem_cons.mpr ⟨lw_p22, List.forall_mem_cons.mpr ⟨lw_p23, List.forall_mem_cons.mpr ⟨lw_p24, List.forall_mem_cons.mpr ⟨lw_p25, List.forall_mem_cons.mpr ⟨lw_p26, List.forall_mem_cons.mpr ⟨lw_p27, List.forall_mem_cons.mpr ⟨lw_p28, List.forall_mem_cons.mpr ⟨lw_p29, List.forall_mem_cons.mpr ⟨lw_p30, List.forall_mem_cons.mpr ⟨lw_p31, fun _ h => absurd h List.not_mem_nil⟩⟩⟩⟩⟩⟩⟩⟩⟩⟩⟩⟩⟩⟩⟩⟩
theorem lw_p32 : lw_okq (⟨"TalkingPlots", "holdsIn", "(II)Z"⟩, 20) := ⟨⟨by decide +kernel, by decide +kernel⟩, lw_t1 (List.mem_of_getElem? (i := 28) rfl), lw_t4 (List.mem_of_getElem? (i := 220) rfl), lw_t4 (List.mem_of_getElem? (i := 221) rfl)⟩
theorem lw_p33 : lw_okq (⟨"TalkingPlots", "laysSaid", "(I)V"⟩, 20) := ⟨⟨by decide +kernel, by decide +kernel⟩, lw_t1 (List.mem_of_getElem? (i := 28) rfl), lw_t4 (List.mem_of_getElem? (i := 234) rfl), lw_t4 (List.mem_of_getElem? (i := 235) rfl)⟩
theorem lw_p34 : lw_okq (⟨"TalkingPlots", "talkOf", "(II)I"⟩, 20) := ⟨⟨by decide +kernel, by decide +kernel⟩, lw_t1 (List.mem_of_getElem? (i := 28) rfl), lw_t5 (List.mem_of_getElem? (i := 5) rfl), lw_t5 (List.mem_of_getElem? (i := 6) rfl)⟩
theorem lw_p35 : lw_okq (⟨"TalkingPlots", "withWhom", "(II)I"⟩, 20) := ⟨⟨by decide +kernel, by decide +kernel⟩, lw_t1 (List.mem_of_getElem? (i := 28) rfl), lw_t5 (List.mem_of_getElem? (i := 9) rfl), lw_t5 (List.mem_of_getElem? (i := 10) rfl)⟩
theorem lw_p36 : lw_okq (⟨"TalkingPlots", "spread", "(I)I"⟩, 20) := ⟨⟨by decide +kernel, by decide +kernel⟩, lw_t1 (List.mem_of_getElem? (i := 28) rfl), lw_t5 (List.mem_of_getElem? (i := 17) rfl), lw_t5 (List.mem_of_getElem? (i := 18) rfl)⟩
theorem lw_p37 : lw_okq (⟨"TalkingPlots", "circleOf", "(I)I"⟩, 20) := ⟨⟨by decide +kernel, by decide +kernel⟩, lw_t1 (List.mem_of_getElem? (i := 28) rfl), lw_t5 (List.mem_of_getElem? (i := 25) rfl), lw_t5 (List.mem_of_getElem? (i := 26) rfl)⟩
theorem lw_p38 : lw_okq (⟨"TalkingPlots", "saying", "(I)I"⟩, 20) := ⟨⟨by decide +kernel, by decide +kernel⟩, lw_t1 (List.mem_of_getElem? (i := 28) rfl), lw_t5 (List.mem_of_getElem? (i := 37) rfl), lw_t5 (List.mem_of_getElem? (i := 38) rfl)⟩
theorem lw_p39 : lw_okq (⟨"TalkingPlots", "talkOn", "(I)I"⟩, 20) := ⟨⟨by decide +kernel, by decide +kernel⟩, lw_t1 (List.mem_of_getElem? (i := 28) rfl), lw_t5 (List.mem_of_getElem? (i := 45) rfl), lw_t5 (List.mem_of_getElem? (i := 46) rfl)⟩
theorem lw_p40 : lw_okq (⟨"TalkingPlots", "largestBlock", "()I"⟩, 20) := ⟨⟨by decide +kernel, by decide +kernel⟩, lw_t1 (List.mem_of_getElem? (i := 28) rfl), lw_t5 (List.mem_of_getElem? (i := 53) rfl), lw_t5 (List.mem_of_getElem? (i := 54) rfl)⟩
theorem lw_p41 : lw_okq (⟨"TalkingPlots", "laysSteps", "(I)V"⟩, 20) := ⟨⟨by decide +kernel, by decide +kernel⟩, lw_t1 (List.mem_of_getElem? (i := 28) rfl), lw_t5 (List.mem_of_getElem? (i := 57) rfl), lw_t5 (List.mem_of_getElem? (i := 58) rfl)⟩
theorem lw_p42 : lw_okq (⟨"TalkingPlots", "stepsTo", "(I)I"⟩, 20) := ⟨⟨by decide +kernel, by decide +kernel⟩, lw_t1 (List.mem_of_getElem? (i := 28) rfl), lw_t5 (List.mem_of_getElem? (i := 66) rfl), lw_t5 (List.mem_of_getElem? (i := 67) rfl)⟩
theorem lw_p43 : lw_okq (⟨"TalkingPlots", "moodOfAll", "()I"⟩, 20) := ⟨⟨by decide +kernel, by decide +kernel⟩, lw_t1 (List.mem_of_getElem? (i := 28) rfl), lw_t5 (List.mem_of_getElem? (i := 103) rfl), lw_t5 (List.mem_of_getElem? (i := 104) rfl)⟩
theorem lw_p44 : lw_okq (⟨"TalkingPlotsModel", "types", "(I)V"⟩, 50) := ⟨⟨by decide +kernel, by decide +kernel⟩, lw_t5 (List.mem_of_getElem? (i := 107) rfl), lw_t6 (List.mem_of_getElem? (i := 36) rfl), lw_t6 (List.mem_of_getElem? (i := 37) rfl)⟩
theorem lw_p45 : lw_okq (⟨"TalkingPlotsModel", "beginsText", "(I)V"⟩, 50) := ⟨⟨by decide +kernel, by decide +kernel⟩, lw_t5 (List.mem_of_getElem? (i := 107) rfl), lw_t6 (List.mem_of_getElem? (i := 44) rfl), lw_t6 (List.mem_of_getElem? (i := 45) rfl)⟩
theorem lw_p46 : lw_okq (⟨"TalkingPlotsModel", "readsRule", "()Z"⟩, 50) := ⟨⟨by decide +kernel, by decide +kernel⟩, lw_t5 (List.mem_of_getElem? (i := 107) rfl), lw_t6 (List.mem_of_getElem? (i := 48) rfl), lw_t6 (List.mem_of_getElem? (i := 49) rfl)⟩
theorem lw_p47 : lw_okq (⟨"TalkingPlotsModel", "here", "()I"⟩, 50) := ⟨⟨by decide +kernel, by decide +kernel⟩, lw_t5 (List.mem_of_getElem? (i := 107) rfl), lw_t6 (List.mem_of_getElem? (i := 52) rfl), lw_t6 (List.mem_of_getElem? (i := 53) rfl)⟩
def lw_privs_3 : List (MethodName × Nat) := [(⟨"TalkingPlots", "holdsIn", "(II)Z"⟩, 20), (⟨"TalkingPlots", "laysSaid", "(I)V"⟩, 20), (⟨"TalkingPlots", "talkOf", "(II)I"⟩, 20), (⟨"TalkingPlots", "withWhom", "(II)I"⟩, 20), (⟨"TalkingPlots", "spread", "(I)I"⟩, 20), (⟨"TalkingPlots", "circleOf", "(I)I"⟩, 20), (⟨"TalkingPlots", "saying", "(I)I"⟩, 20), (⟨"TalkingPlots", "talkOn", "(I)I"⟩, 20), (⟨"TalkingPlots", "largestBlock", "()I"⟩, 20), (⟨"TalkingPlots", "laysSteps", "(I)V"⟩, 20), (⟨"TalkingPlots", "stepsTo", "(I)I"⟩, 20), (⟨"TalkingPlots", "moodOfAll", "()I"⟩, 20), (⟨"TalkingPlotsModel", "types", "(I)V"⟩, 50), (⟨"TalkingPlotsModel", "beginsText", "(I)V"⟩, 50), (⟨"TalkingPlotsModel", "readsRule", "()Z"⟩, 50), (⟨"TalkingPlotsModel", "here", "()I"⟩, 50)]
theorem lw_r3 : ∀ q ∈ lw_privs_3, lw_okq q := List.forall_mem_cons.mpr ⟨lw_p32, List.forall_mem_cons.mpr ⟨lw_p33, List.forall_mem_cons.mpr ⟨lw_p34, List.forall_mem_cons.mpr ⟨lw_p35, List.forall_mem_cons.mpr ⟨lw_p36, List.forall_mem_cons.mpr ⟨lw_p37, List.forall_mem_cons.mpr ⟨lw_p38, List.forall_mem_cons.mpr ⟨lw_p39, List.forall_mem_cons.mpr ⟨lw_p40, List.forall_mem_cons.mpr ⟨lw_p41, List.forall_mem_cons.mpr ⟨lw_p42, List.forall_mem_cons.mpr ⟨lw_p43, List.forall_mem_cons.mpr ⟨lw_p44, List.forall_mem_cons.mpr ⟨lw_p45, List.forall_mem_cons.mpr ⟨lw_p46, List.forall_mem_cons.mpr ⟨lw_p47, fun _ h => absurd h List.not_mem_nil⟩⟩⟩⟩⟩⟩⟩⟩⟩⟩⟩⟩⟩⟩⟩⟩
theorem lw_p48 : lw_okq (⟨"TalkingPlotsModel", "wrongAt", "(II)Z"⟩, 50) := ⟨⟨by decide +kernel, by decide +kernel⟩, lw_t5 (List.mem_of_getElem? (i := 107) rfl), lw_t6 (List.mem_of_getElem? (i := 56) rfl), lw_t6 (List.mem_of_getElem? (i := 57) rfl)⟩
theorem lw_p49 : lw_okq (⟨"TalkingPlotsModel", "readsSum", "()Z"⟩, 50) := ⟨⟨by decide +kernel, by decide +kernel⟩, lw_t5 (List.mem_of_getElem? (i := 107) rfl), lw_t6 (List.mem_of_getElem? (i := 60) rfl), lw_t6 (List.mem_of_getElem? (i := 61) rfl)⟩
theorem lw_p50 : lw_okq (⟨"TalkingPlotsModel", "readsFactor", "()Z"⟩, 50) := ⟨⟨by decide +kernel, by decide +kernel⟩, lw_t5 (List.mem_of_getElem? (i := 107) rfl), lw_t6 (List.mem_of_getElem? (i := 64) rfl), lw_t6 (List.mem_of_getElem? (i := 65) rfl)⟩
theorem lw_p51 : lw_okq (⟨"TalkingPlotsModel", "opens", "(I)Z"⟩, 50) := ⟨⟨by decide +kernel, by decide +kernel⟩, lw_t5 (List.mem_of_getElem? (i := 107) rfl), lw_t6 (List.mem_of_getElem? (i := 68) rfl), lw_t6 (List.mem_of_getElem? (i := 69) rfl)⟩
theorem lw_p52 : lw_okq (⟨"TalkingPlotsModel", "isDigit", "()Z"⟩, 50) := ⟨⟨by decide +kernel, by decide +kernel⟩, lw_t5 (List.mem_of_getElem? (i := 107) rfl), lw_t6 (List.mem_of_getElem? (i := 73) rfl), lw_t6 (List.mem_of_getElem? (i := 74) rfl)⟩
theorem lw_p53 : lw_okq (⟨"TalkingPlotsModel", "readsNumber", "()Z"⟩, 50) := ⟨⟨by decide +kernel, by decide +kernel⟩, lw_t5 (List.mem_of_getElem? (i := 107) rfl), lw_t6 (List.mem_of_getElem? (i := 77) rfl), lw_t6 (List.mem_of_getElem? (i := 78) rfl)⟩
theorem lw_p54 : lw_okq (⟨"TalkingPlotsModel", "notes", "(II)V"⟩, 50) := ⟨⟨by decide +kernel, by decide +kernel⟩, lw_t5 (List.mem_of_getElem? (i := 107) rfl), lw_t6 (List.mem_of_getElem? (i := 81) rfl), lw_t6 (List.mem_of_getElem? (i := 82) rfl)⟩
theorem lw_p55 : lw_okq (⟨"TalkingPlotsModel", "closesSums", "(Z)V"⟩, 50) := ⟨⟨by decide +kernel, by decide +kernel⟩, lw_t5 (List.mem_of_getElem? (i := 107) rfl), lw_t6 (List.mem_of_getElem? (i := 91) rfl), lw_t6 (List.mem_of_getElem? (i := 92) rfl)⟩
theorem lw_p56 : lw_okq (⟨"TalkingPlotsModel", "waitTop", "()I"⟩, 50) := ⟨⟨by decide +kernel, by decide +kernel⟩, lw_t5 (List.mem_of_getElem? (i := 107) rfl), lw_t6 (List.mem_of_getElem? (i := 95) rfl), lw_t6 (List.mem_of_getElem? (i := 96) rfl)⟩
theorem lw_p57 : lw_okq (⟨"TalkingPlotsModel", "hasOpenSum", "(I)Z"⟩, 50) := ⟨⟨by decide +kernel, by decide +kernel⟩, lw_t5 (List.mem_of_getElem? (i := 107) rfl), lw_t6 (List.mem_of_getElem? (i := 99) rfl), lw_t6 (List.mem_of_getElem? (i := 100) rfl)⟩
theorem lw_p58 : lw_okq (⟨"TalkingPlotsModel", "readsCondition", "()Z"⟩, 50) := ⟨⟨by decide +kernel, by decide +kernel⟩, lw_t5 (List.mem_of_getElem? (i := 107) rfl), lw_t6 (List.mem_of_getElem? (i := 103) rfl), lw_t6 (List.mem_of_getElem? (i := 104) rfl)⟩
theorem lw_p59 : lw_okq (⟨"TalkingPlotsModel", "readsCompared", "()Z"⟩, 50) := ⟨⟨by decide +kernel, by decide +kernel⟩, lw_t5 (List.mem_of_getElem? (i := 107) rfl), lw_t6 (List.mem_of_getElem? (i := 107) rfl), lw_t6 (List.mem_of_getElem? (i := 108) rfl)⟩
theorem lw_p60 : lw_okq (⟨"TalkingPlotsModel", "endsPiece", "()V"⟩, 50) := ⟨⟨by decide +kernel, by decide +kernel⟩, lw_t5 (List.mem_of_getElem? (i := 107) rfl), lw_t6 (List.mem_of_getElem? (i := 111) rfl), lw_t6 (List.mem_of_getElem? (i := 112) rfl)⟩
theorem lw_p61 : lw_okq (⟨"TalkingPlotsModel", "lands", "(Z)V"⟩, 50) := ⟨⟨by decide +kernel, by decide +kernel⟩, lw_t5 (List.mem_of_getElem? (i := 107) rfl), lw_t6 (List.mem_of_getElem? (i := 115) rfl), lw_t6 (List.mem_of_getElem? (i := 116) rfl)⟩
theorem lw_p62 : lw_okq (⟨"TalkingPlotsModel", "jumps", "(I)V"⟩, 50) := ⟨⟨by decide +kernel, by decide +kernel⟩, lw_t5 (List.mem_of_getElem? (i := 107) rfl), lw_t6 (List.mem_of_getElem? (i := 119) rfl), lw_t6 (List.mem_of_getElem? (i := 120) rfl)⟩
theorem lw_p63 : lw_okq (⟨"TalkingPlotsModel", "takes", "(I)Z"⟩, 50) := ⟨⟨by decide +kernel, by decide +kernel⟩, lw_t5 (List.mem_of_getElem? (i := 107) rfl), lw_t6 (List.mem_of_getElem? (i := 123) rfl), lw_t6 (List.mem_of_getElem? (i := 124) rfl)⟩
def lw_privs_4 : List (MethodName × Nat) := [(⟨"TalkingPlotsModel", "wrongAt", "(II)Z"⟩, 50), (⟨"TalkingPlotsModel", "readsSum", "()Z"⟩, 50), (⟨"TalkingPlotsModel", "readsFactor", "()Z"⟩, 50), (⟨"TalkingPlotsModel", "opens", "(I)Z"⟩, 50), (⟨"TalkingPlotsModel", "isDigit", "()Z"⟩, 50), (⟨"TalkingPlotsModel", "readsNumber", "()Z"⟩, 50), (⟨"TalkingPlotsModel", "notes", "(II)V"⟩, 50), (⟨"TalkingPlotsModel", "closesSums", "(Z)V"⟩, 50), (⟨"TalkingPlotsModel", "waitTop", "()I"⟩, 50), (⟨"TalkingPlotsModel", "hasOpenSum", "(I)Z"⟩, 50), (⟨"TalkingPlotsModel", "readsCondition", "()Z"⟩, 50), (⟨"TalkingPlotsModel", "readsCompared", "()Z"⟩, 50), (⟨"TalkingPlotsModel", "endsPiece", "()V"⟩, 50), (⟨"TalkingPlotsModel", "lands", "(Z)V"⟩, 50), (⟨"TalkingPlotsModel", "jumps", "(I)V"⟩, 50), (⟨"TalkingPlotsModel", "takes", "(I)Z"⟩, 50)]
theorem lw_r4 : ∀ q ∈ lw_privs_4, lw_okq q := List.forall_mem_cons.mpr ⟨lw_p48, List.forall_mem_cons.mpr ⟨lw_p49, List.forall_mem_cons.mpr ⟨lw_p50, List.forall_mem_cons.mpr ⟨lw_p51, List.forall_mem_cons.mpr ⟨lw_p52, List.forall_mem_cons.mpr ⟨lw_p53, List.forall_mem_cons.mpr ⟨lw_p54, List.forall_mem_cons.mpr ⟨lw_p55, List.forall_mem_cons.mpr ⟨lw_p56, List.forall_mem_cons.mpr ⟨lw_p57, List.forall_mem_cons.mpr ⟨lw_p58, List.forall_mem_cons.mpr ⟨lw_p59, List.forall_mem_cons.mpr ⟨lw_p60, List.forall_mem_cons.mpr ⟨lw_p61, List.forall_mem_cons.mpr ⟨lw_p62, List.forall_mem_cons.mpr ⟨lw_p63, fun _ h => absurd h List.not_mem_nil⟩⟩⟩⟩⟩⟩⟩⟩⟩⟩⟩⟩⟩⟩⟩⟩
theorem lw_p64 : lw_okq (⟨"TalkingPlotsModel", "readsLine", "()Z"⟩, 50) := ⟨⟨by decide +kernel, by decide +kernel⟩, lw_t5 (List.mem_of_getElem? (i := 107) rfl), lw_t6 (List.mem_of_getElem? (i := 134) rfl), lw_t6 (List.mem_of_getElem? (i := 135) rfl)⟩
theorem lw_p65 : lw_okq (⟨"TalkingPlotsModel", "isLetter", "()Z"⟩, 50) := ⟨⟨by decide +kernel, by decide +kernel⟩, lw_t5 (List.mem_of_getElem? (i := 107) rfl), lw_t6 (List.mem_of_getElem? (i := 138) rfl), lw_t6 (List.mem_of_getElem? (i := 139) rfl)⟩
theorem lw_p66 : lw_okq (⟨"TalkingPlotsModel", "isTold", "(I)Z"⟩, 50) := ⟨⟨by decide +kernel, by decide +kernel⟩, lw_t5 (List.mem_of_getElem? (i := 107) rfl), lw_t6 (List.mem_of_getElem? (i := 142) rfl), lw_t6 (List.mem_of_getElem? (i := 143) rfl)⟩
theorem lw_p67 : lw_okq (⟨"TalkingPlotsModel", "readsPlot", "(I)Z"⟩, 50) := ⟨⟨by decide +kernel, by decide +kernel⟩, lw_t5 (List.mem_of_getElem? (i := 107) rfl), lw_t6 (List.mem_of_getElem? (i := 146) rfl), lw_t6 (List.mem_of_getElem? (i := 147) rfl)⟩
theorem lw_p68 : lw_okq (⟨"TalkingPlotsModel", "whoLies", "(I)I"⟩, 50) := ⟨⟨by decide +kernel, by decide +kernel⟩, lw_t5 (List.mem_of_getElem? (i := 107) rfl), lw_t6 (List.mem_of_getElem? (i := 150) rfl), lw_t6 (List.mem_of_getElem? (i := 151) rfl)⟩
theorem lw_p69 : lw_okq (⟨"TalkingPlotsModel", "isLaid", "(I)Z"⟩, 50) := ⟨⟨by decide +kernel, by decide +kernel⟩, lw_t5 (List.mem_of_getElem? (i := 107) rfl), lw_t6 (List.mem_of_getElem? (i := 154) rfl), lw_t6 (List.mem_of_getElem? (i := 155) rfl)⟩
theorem lw_p70 : lw_okq (⟨"TalkingPlotsModel", "readsOther", "(I)Z"⟩, 50) := ⟨⟨by decide +kernel, by decide +kernel⟩, lw_t5 (List.mem_of_getElem? (i := 107) rfl), lw_t6 (List.mem_of_getElem? (i := 158) rfl), lw_t6 (List.mem_of_getElem? (i := 159) rfl)⟩
theorem lw_p71 : lw_okq (⟨"TalkingPlotsModel", "readsTopic", "(IZ)Z"⟩, 50) := ⟨⟨by decide +kernel, by decide +kernel⟩, lw_t5 (List.mem_of_getElem? (i := 107) rfl), lw_t6 (List.mem_of_getElem? (i := 162) rfl), lw_t6 (List.mem_of_getElem? (i := 163) rfl)⟩
theorem lw_p72 : lw_okq (⟨"TalkingPlotsModel", "readsWish", "()Z"⟩, 50) := ⟨⟨by decide +kernel, by decide +kernel⟩, lw_t5 (List.mem_of_getElem? (i := 107) rfl), lw_t6 (List.mem_of_getElem? (i := 170) rfl), lw_t6 (List.mem_of_getElem? (i := 171) rfl)⟩
theorem lw_p73 : lw_okq (⟨"TalkingPlotsModel", "nightsGo", "(I)V"⟩, 50) := ⟨⟨by decide +kernel, by decide +kernel⟩, lw_t5 (List.mem_of_getElem? (i := 107) rfl), lw_t6 (List.mem_of_getElem? (i := 178) rfl), lw_t6 (List.mem_of_getElem? (i := 179) rfl)⟩
theorem lw_p74 : lw_okq (⟨"TalkingPlotsModel", "turnOf", "(I)V"⟩, 50) := ⟨⟨by decide +kernel, by decide +kernel⟩, lw_t5 (List.mem_of_getElem? (i := 107) rfl), lw_t6 (List.mem_of_getElem? (i := 182) rfl), lw_t6 (List.mem_of_getElem? (i := 183) rfl)⟩
theorem lw_p75 : lw_okq (⟨"TalkingPlotsModel", "feels", "(II)V"⟩, 50) := ⟨⟨by decide +kernel, by decide +kernel⟩, lw_t5 (List.mem_of_getElem? (i := 107) rfl), lw_t6 (List.mem_of_getElem? (i := 186) rfl), lw_t6 (List.mem_of_getElem? (i := 187) rfl)⟩
theorem lw_p76 : lw_okq (⟨"TalkingPlotsModel", "shared", "(II)I"⟩, 50) := ⟨⟨by decide +kernel, by decide +kernel⟩, lw_t5 (List.mem_of_getElem? (i := 107) rfl), lw_t6 (List.mem_of_getElem? (i := 190) rfl), lw_t6 (List.mem_of_getElem? (i := 191) rfl)⟩
theorem lw_p77 : lw_okq (⟨"TalkingPlotsModel", "besideSet", "(I)I"⟩, 50) := ⟨⟨by decide +kernel, by decide +kernel⟩, lw_t5 (List.mem_of_getElem? (i := 107) rfl), lw_t6 (List.mem_of_getElem? (i := 197) rfl), lw_t6 (List.mem_of_getElem? (i := 198) rfl)⟩
theorem lw_p78 : lw_okq (⟨"TalkingPlotsModel", "areBeside", "(II)Z"⟩, 50) := ⟨⟨by decide +kernel, by decide +kernel⟩, lw_t5 (List.mem_of_getElem? (i := 107) rfl), lw_t6 (List.mem_of_getElem? (i := 201) rfl), lw_t6 (List.mem_of_getElem? (i := 202) rfl)⟩
theorem lw_p79 : lw_okq (⟨"TalkingPlotsModel", "holdsAny", "(I)Z"⟩, 50) := ⟨⟨by decide +kernel, by decide +kernel⟩, lw_t5 (List.mem_of_getElem? (i := 107) rfl), lw_t6 (List.mem_of_getElem? (i := 211) rfl), lw_t6 (List.mem_of_getElem? (i := 212) rfl)⟩
def lw_privs_5 : List (MethodName × Nat) := [(⟨"TalkingPlotsModel", "readsLine", "()Z"⟩, 50), (⟨"TalkingPlotsModel", "isLetter", "()Z"⟩, 50), (⟨"TalkingPlotsModel", "isTold", "(I)Z"⟩, 50), (⟨"TalkingPlotsModel", "readsPlot", "(I)Z"⟩, 50), (⟨"TalkingPlotsModel", "whoLies", "(I)I"⟩, 50), (⟨"TalkingPlotsModel", "isLaid", "(I)Z"⟩, 50), (⟨"TalkingPlotsModel", "readsOther", "(I)Z"⟩, 50), (⟨"TalkingPlotsModel", "readsTopic", "(IZ)Z"⟩, 50), (⟨"TalkingPlotsModel", "readsWish", "()Z"⟩, 50), (⟨"TalkingPlotsModel", "nightsGo", "(I)V"⟩, 50), (⟨"TalkingPlotsModel", "turnOf", "(I)V"⟩, 50), (⟨"TalkingPlotsModel", "feels", "(II)V"⟩, 50), (⟨"TalkingPlotsModel", "shared", "(II)I"⟩, 50), (⟨"TalkingPlotsModel", "besideSet", "(I)I"⟩, 50), (⟨"TalkingPlotsModel", "areBeside", "(II)Z"⟩, 50), (⟨"TalkingPlotsModel", "holdsAny", "(I)Z"⟩, 50)]
theorem lw_r5 : ∀ q ∈ lw_privs_5, lw_okq q := List.forall_mem_cons.mpr ⟨lw_p64, List.forall_mem_cons.mpr ⟨lw_p65, List.forall_mem_cons.mpr ⟨lw_p66, List.forall_mem_cons.mpr ⟨lw_p67, List.forall_mem_cons.mpr ⟨lw_p68, List.forall_mem_cons.mpr ⟨lw_p69, List.forall_mem_cons.mpr ⟨lw_p70, List.forall_mem_cons.mpr ⟨lw_p71, List.forall_mem_cons.mpr ⟨lw_p72, List.forall_mem_cons.mpr ⟨lw_p73, List.forall_mem_cons.mpr ⟨lw_p74, List.forall_mem_cons.mpr ⟨lw_p75, List.forall_mem_cons.mpr ⟨lw_p76, List.forall_mem_cons.mpr ⟨lw_p77, List.forall_mem_cons.mpr ⟨lw_p78, List.forall_mem_cons.mpr ⟨lw_p79, fun _ h => absurd h List.not_mem_nil⟩⟩⟩⟩⟩⟩⟩⟩⟩⟩⟩⟩⟩⟩⟩⟩
theorem lw_p80 : lw_okq (⟨"TalkingPlotsModel", "comesTo", "(II)I"⟩, 50) := ⟨⟨by decide +kernel, by decide +kernel⟩, lw_t5 (List.mem_of_getElem? (i := 107) rfl), lw_t6 (List.mem_of_getElem? (i := 215) rfl), lw_t6 (List.mem_of_getElem? (i := 216) rfl)⟩
theorem lw_p81 : lw_okq (⟨"TalkingPlotsModel", "likesMost", "(I)I"⟩, 50) := ⟨⟨by decide +kernel, by decide +kernel⟩, lw_t5 (List.mem_of_getElem? (i := 107) rfl), lw_t6 (List.mem_of_getElem? (i := 222) rfl), lw_t6 (List.mem_of_getElem? (i := 223) rfl)⟩
theorem lw_p82 : lw_okq (⟨"TalkingPlotsModel", "byLaw", "(II)I"⟩, 50) := ⟨⟨by decide +kernel, by decide +kernel⟩, lw_t5 (List.mem_of_getElem? (i := 107) rfl), lw_t6 (List.mem_of_getElem? (i := 226) rfl), lw_t6 (List.mem_of_getElem? (i := 227) rfl)⟩
theorem lw_p83 : lw_okq (⟨"TalkingPlotsModel", "learns", "(II)V"⟩, 50) := ⟨⟨by decide +kernel, by decide +kernel⟩, lw_t5 (List.mem_of_getElem? (i := 107) rfl), lw_t6 (List.mem_of_getElem? (i := 231) rfl), lw_t6 (List.mem_of_getElem? (i := 232) rfl)⟩
theorem lw_p84 : lw_okq (⟨"TalkingPlotsModel", "moodless", "()I"⟩, 50) := ⟨⟨by decide +kernel, by decide +kernel⟩, lw_t5 (List.mem_of_getElem? (i := 107) rfl), lw_t7 (List.mem_of_getElem? (i := 8) rfl), lw_t7 (List.mem_of_getElem? (i := 9) rfl)⟩
theorem lw_p85 : lw_okq (⟨"TalkingPlotsModel", "rankOf", "(I)I"⟩, 50) := ⟨⟨by decide +kernel, by decide +kernel⟩, lw_t5 (List.mem_of_getElem? (i := 107) rfl), lw_t7 (List.mem_of_getElem? (i := 16) rfl), lw_t7 (List.mem_of_getElem? (i := 17) rfl)⟩
theorem lw_p86 : lw_okq (⟨"TalkingPlotsModel", "talkOf", "(II)I"⟩, 50) := ⟨⟨by decide +kernel, by decide +kernel⟩, lw_t5 (List.mem_of_getElem? (i := 107) rfl), lw_t7 (List.mem_of_getElem? (i := 24) rfl), lw_t7 (List.mem_of_getElem? (i := 25) rfl)⟩
theorem lw_p87 : lw_okq (⟨"TalkingPlotsModel", "talkAt", "(II)I"⟩, 50) := ⟨⟨by decide +kernel, by decide +kernel⟩, lw_t5 (List.mem_of_getElem? (i := 107) rfl), lw_t7 (List.mem_of_getElem? (i := 36) rfl), lw_t7 (List.mem_of_getElem? (i := 37) rfl)⟩
theorem lw_p88 : lw_okq (⟨"TalkingPlotsModel", "changesPlots", "(II)V"⟩, 50) := ⟨⟨by decide +kernel, by decide +kernel⟩, lw_t5 (List.mem_of_getElem? (i := 107) rfl), lw_t7 (List.mem_of_getElem? (i := 49) rfl), lw_t7 (List.mem_of_getElem? (i := 50) rfl)⟩
theorem lw_p89 : lw_okq (⟨"TalkingPlotsModel", "holdsWish", "(I)Z"⟩, 50) := ⟨⟨by decide +kernel, by decide +kernel⟩, lw_t5 (List.mem_of_getElem? (i := 107) rfl), lw_t7 (List.mem_of_getElem? (i := 57) rfl), lw_t7 (List.mem_of_getElem? (i := 58) rfl)⟩
theorem lw_p90 : lw_okq (⟨"TalkingPlotsModel", "toldSet", "()I"⟩, 50) := ⟨⟨by decide +kernel, by decide +kernel⟩, lw_t5 (List.mem_of_getElem? (i := 107) rfl), lw_t7 (List.mem_of_getElem? (i := 68) rfl), lw_t7 (List.mem_of_getElem? (i := 69) rfl)⟩
theorem lw_p91 : lw_okq (⟨"TalkingPlotsModel", "mayBeOrder", "(I)V"⟩, 50) := ⟨⟨by decide +kernel, by decide +kernel⟩, lw_t5 (List.mem_of_getElem? (i := 107) rfl), lw_t7 (List.mem_of_getElem? (i := 73) rfl), lw_t7 (List.mem_of_getElem? (i := 74) rfl)⟩
theorem lw_p92 : lw_okq (⟨"TalkingPlotsModel", "holdsInRow", "(II)Z"⟩, 50) := ⟨⟨by decide +kernel, by decide +kernel⟩, lw_t5 (List.mem_of_getElem? (i := 107) rfl), lw_t7 (List.mem_of_getElem? (i := 77) rfl), lw_t7 (List.mem_of_getElem? (i := 78) rfl)⟩
theorem lw_p93 : lw_okq (⟨"TalkingPlotsModel", "nextOrder", "(I)Z"⟩, 50) := ⟨⟨by decide +kernel, by decide +kernel⟩, lw_t5 (List.mem_of_getElem? (i := 107) rfl), lw_t7 (List.mem_of_getElem? (i := 81) rfl), lw_t7 (List.mem_of_getElem? (i := 82) rfl)⟩
theorem lw_p94 : lw_okq (⟨"TalkingPlotsModel", "changesOrder", "(II)V"⟩, 50) := ⟨⟨by decide +kernel, by decide +kernel⟩, lw_t5 (List.mem_of_getElem? (i := 107) rfl), lw_t7 (List.mem_of_getElem? (i := 85) rfl), lw_t7 (List.mem_of_getElem? (i := 86) rfl)⟩
theorem lw_p95 : lw_okq (⟨"TalkingPlotsModel", "laysCouples", "()V"⟩, 50) := ⟨⟨by decide +kernel, by decide +kernel⟩, lw_t5 (List.mem_of_getElem? (i := 107) rfl), lw_t7 (List.mem_of_getElem? (i := 93) rfl), lw_t7 (List.mem_of_getElem? (i := 94) rfl)⟩
def lw_privs_6 : List (MethodName × Nat) := [(⟨"TalkingPlotsModel", "comesTo", "(II)I"⟩, 50), (⟨"TalkingPlotsModel", "likesMost", "(I)I"⟩, 50), (⟨"TalkingPlotsModel", "byLaw", "(II)I"⟩, 50), (⟨"TalkingPlotsModel", "learns", "(II)V"⟩, 50), (⟨"TalkingPlotsModel", "moodless", "()I"⟩, 50), (⟨"TalkingPlotsModel", "rankOf", "(I)I"⟩, 50), (⟨"TalkingPlotsModel", "talkOf", "(II)I"⟩, 50), (⟨"TalkingPlotsModel", "talkAt", "(II)I"⟩, 50), (⟨"TalkingPlotsModel", "changesPlots", "(II)V"⟩, 50), (⟨"TalkingPlotsModel", "holdsWish", "(I)Z"⟩, 50), (⟨"TalkingPlotsModel", "toldSet", "()I"⟩, 50), (⟨"TalkingPlotsModel", "mayBeOrder", "(I)V"⟩, 50), (⟨"TalkingPlotsModel", "holdsInRow", "(II)Z"⟩, 50), (⟨"TalkingPlotsModel", "nextOrder", "(I)Z"⟩, 50), (⟨"TalkingPlotsModel", "changesOrder", "(II)V"⟩, 50), (⟨"TalkingPlotsModel", "laysCouples", "()V"⟩, 50)]
theorem lw_r6 : ∀ q ∈ lw_privs_6, lw_okq q := List.forall_mem_cons.mpr ⟨lw_p80, List.forall_mem_cons.mpr ⟨lw_p81, List.forall_mem_cons.mpr ⟨lw_p82, List.forall_mem_cons.mpr ⟨lw_p83, List.forall_mem_cons.mpr ⟨lw_p84, List.forall_mem_cons.mpr ⟨lw_p85, List.forall_mem_cons.mpr ⟨lw_p86, List.forall_mem_cons.mpr ⟨lw_p87, List.forall_mem_cons.mpr ⟨lw_p88, List.forall_mem_cons.mpr ⟨lw_p89, List.forall_mem_cons.mpr ⟨lw_p90, List.forall_mem_cons.mpr ⟨lw_p91, List.forall_mem_cons.mpr ⟨lw_p92, List.forall_mem_cons.mpr ⟨lw_p93, List.forall_mem_cons.mpr ⟨lw_p94, List.forall_mem_cons.mpr ⟨lw_p95, fun _ h => absurd h List.not_mem_nil⟩⟩⟩⟩⟩⟩⟩⟩⟩⟩⟩⟩⟩⟩⟩⟩
theorem lw_p96 : lw_okq (⟨"TalkingPlotsModel", "isWith", "(I)I"⟩, 50) := ⟨⟨by decide +kernel, by decide +kernel⟩, lw_t5 (List.mem_of_getElem? (i := 107) rfl), lw_t7 (List.mem_of_getElem? (i := 97) rfl), lw_t7 (List.mem_of_getElem? (i := 98) rfl)⟩
theorem lw_p97 : lw_okq (⟨"TalkingPlotsModel", "andBeside", "(I)I"⟩, 50) := ⟨⟨by decide +kernel, by decide +kernel⟩, lw_t5 (List.mem_of_getElem? (i := 107) rfl), lw_t7 (List.mem_of_getElem? (i := 105) rfl), lw_t7 (List.mem_of_getElem? (i := 106) rfl)⟩
theorem lw_p98 : lw_okq (⟨"TalkingPlotsModel", "circleOf", "(I)I"⟩, 50) := ⟨⟨by decide +kernel, by decide +kernel⟩, lw_t5 (List.mem_of_getElem? (i := 107) rfl), lw_t7 (List.mem_of_getElem? (i := 113) rfl), lw_t7 (List.mem_of_getElem? (i := 114) rfl)⟩
theorem lw_p99 : lw_okq (⟨"TalkingPlotsModel", "laidSet", "()I"⟩, 50) := ⟨⟨by decide +kernel, by decide +kernel⟩, lw_t5 (List.mem_of_getElem? (i := 107) rfl), lw_t7 (List.mem_of_getElem? (i := 117) rfl), lw_t7 (List.mem_of_getElem? (i := 118) rfl)⟩
theorem lw_p100 : lw_okq (⟨"TalkingPlotsModel", "sayingOf", "(I)I"⟩, 50) := ⟨⟨by decide +kernel, by decide +kernel⟩, lw_t5 (List.mem_of_getElem? (i := 107) rfl), lw_t7 (List.mem_of_getElem? (i := 129) rfl), lw_t7 (List.mem_of_getElem? (i := 130) rfl)⟩
theorem lw_p101 : lw_okq (⟨"TalkingPlotsModel", "octet", "(I)I"⟩, 50) := ⟨⟨by decide +kernel, by decide +kernel⟩, lw_t5 (List.mem_of_getElem? (i := 107) rfl), lw_t7 (List.mem_of_getElem? (i := 133) rfl), lw_t7 (List.mem_of_getElem? (i := 134) rfl)⟩
theorem lw_p102 : lw_okq (⟨"TalkingPlotsModel", "walksFrom", "(I)I"⟩, 50) := ⟨⟨by decide +kernel, by decide +kernel⟩, lw_t5 (List.mem_of_getElem? (i := 107) rfl), lw_t7 (List.mem_of_getElem? (i := 145) rfl), lw_t7 (List.mem_of_getElem? (i := 146) rfl)⟩
theorem lw_p103 : lw_okq (⟨"TalkingPlotsModel", "isSilent", "(I)Z"⟩, 50) := ⟨⟨by decide +kernel, by decide +kernel⟩, lw_t5 (List.mem_of_getElem? (i := 107) rfl), lw_t7 (List.mem_of_getElem? (i := 149) rfl), lw_t7 (List.mem_of_getElem? (i := 150) rfl)⟩
theorem lw_p104 : lw_okq (⟨"TalkingPlotsModel", "stepsBeside", "(I)I"⟩, 50) := ⟨⟨by decide +kernel, by decide +kernel⟩, lw_t5 (List.mem_of_getElem? (i := 107) rfl), lw_t7 (List.mem_of_getElem? (i := 157) rfl), lw_t7 (List.mem_of_getElem? (i := 158) rfl)⟩
def lw_privs_7 : List (MethodName × Nat) := [(⟨"TalkingPlotsModel", "isWith", "(I)I"⟩, 50), (⟨"TalkingPlotsModel", "andBeside", "(I)I"⟩, 50), (⟨"TalkingPlotsModel", "circleOf", "(I)I"⟩, 50), (⟨"TalkingPlotsModel", "laidSet", "()I"⟩, 50), (⟨"TalkingPlotsModel", "sayingOf", "(I)I"⟩, 50), (⟨"TalkingPlotsModel", "octet", "(I)I"⟩, 50), (⟨"TalkingPlotsModel", "walksFrom", "(I)I"⟩, 50), (⟨"TalkingPlotsModel", "isSilent", "(I)Z"⟩, 50), (⟨"TalkingPlotsModel", "stepsBeside", "(I)I"⟩, 50)]
theorem lw_r7 : ∀ q ∈ lw_privs_7, lw_okq q := List.forall_mem_cons.mpr ⟨lw_p96, List.forall_mem_cons.mpr ⟨lw_p97, List.forall_mem_cons.mpr ⟨lw_p98, List.forall_mem_cons.mpr ⟨lw_p99, List.forall_mem_cons.mpr ⟨lw_p100, List.forall_mem_cons.mpr ⟨lw_p101, List.forall_mem_cons.mpr ⟨lw_p102, List.forall_mem_cons.mpr ⟨lw_p103, List.forall_mem_cons.mpr ⟨lw_p104, fun _ h => absurd h List.not_mem_nil⟩⟩⟩⟩⟩⟩⟩⟩⟩
def lw_privs : List (MethodName × Nat) := lw_privs_1 ++ (lw_privs_2 ++ (lw_privs_3 ++ (lw_privs_4 ++ (lw_privs_5 ++ (lw_privs_6 ++ (lw_privs_7))))))
def lw_tbl : List Cond := k2_sels lw_privs ++ tables_1
theorem lw_privs_ok : ∀ q ∈ lw_privs, lw_okq q := by
  show ∀ q ∈ lw_privs_1 ++ (lw_privs_2 ++ (lw_privs_3 ++ (lw_privs_4 ++ (lw_privs_5 ++ (lw_privs_6 ++ (lw_privs_7)))))), lw_okq q
  exact List.forall_mem_append.mpr ⟨lw_r1, List.forall_mem_append.mpr ⟨lw_r2, List.forall_mem_append.mpr ⟨lw_r3, List.forall_mem_append.mpr ⟨lw_r4, List.forall_mem_append.mpr ⟨lw_r5, List.forall_mem_append.mpr ⟨lw_r6, lw_r7⟩⟩⟩⟩⟩⟩
-- ===== ONE list of words for every method: the tables' words that hold all through a run =====
def lw_all : List Cond := lw_tbl.filter goodWord
/-- a word of the tables by its place: claim/WORDS.tsv -/
theorem lw_w {w : Cond} (i : Nat) (h : lw_tbl[i]? = some w) (g : goodWord w = true) : w ∈ lw_all := List.mem_filter.mpr ⟨List.mem_of_getElem? h, g⟩
theorem lw_all_tbl {w : Cond} (h : w ∈ lw_all) : w ∈ lw_tbl := (List.mem_filter.mp h).1
theorem lw_self : GoodIn lw_all lw_all := fun w h => ⟨h, good_of_word (List.mem_filter.mp h).2⟩
/-- a class's field words, by their places -/
theorem lw_in (ws : List Cond) (ps : List Nat) (hp : ws = ps.filterMap (fun i => lw_tbl[i]?)) (hg : ws.all goodWord = true) : ∀ w ∈ ws, w ∈ lw_all := by
  intro w h
  have h1 := List.all_eq_true.mp hg w h
  rw [hp] at h
  obtain ⟨i, -, hi⟩ := List.mem_filterMap.mp h
  exact lw_w i hi h1
/-- the words of a contract for the method y with code b, L locals, answer r -/
abbrev ws_ (y : MethodName) (b : ByteArray) (L : Nat) (r : Option FieldType) : List Cond := Cond.code y b L r :: lw_all
theorem lw_meth {y : MethodName} {b : ByteArray} {L : Nat} {r : Option FieldType} (h : Cond.code y b L r ∈ lw_all) : GoodIn lw_all (ws_ y b L r) := by
  intro w hw
  rcases List.mem_cons.mp hw with e | e
  · rw [e]
    exact lw_self _ h
  · exact lw_self _ e
theorem lw_app {a c : List Cond} (ha : ∀ w ∈ a, w ∈ lw_all) (hc : GoodIn lw_all c) : GoodIn lw_all (a ++ c) := by
  intro w hw
  rcases List.mem_append.mp hw with e | e
  · exact lw_self w (ha w e)
  · exact hc w e
/-- what a call through an object asks: cwV n hts (lw_V ..) -/
theorem lw_V {own : String} {idx : Nat} {C : String} {y : MethodName} {b : ByteArray} {L : Nat} {r : Option FieldType} (h1 : Cond.methodLink own idx y ∈ lw_all) (h2 : Cond.instanceMethod y ∈ lw_all) (h3 : Cond.selects C y y ∈ lw_all) (h4 : Cond.initialized C ∈ lw_all) (h5 : Cond.code y b L r ∈ lw_all) : GoodIn lw_all (wsV own idx C y (ws_ y b L r)) := by
  refine lw_app ?_ (lw_meth h5)
  intro w hw
  simp only [List.mem_cons, List.not_mem_nil, or_false] at hw
  rcases hw with e | e | e | e
  · rw [e]; exact h1
  · rw [e]; exact h2
  · rw [e]; exact h3
  · rw [e]; exact h4
/-- what a static call asks: va_cwS n hts (lw_S ..) -/
theorem lw_S {own : String} {idx : Nat} {y : MethodName} {b : ByteArray} {L : Nat} {r : Option FieldType} (h1 : Cond.methodLink own idx y ∈ lw_all) (h2 : Cond.static y ∈ lw_all) (h3 : Cond.initialized y.cls ∈ lw_all) (h4 : Cond.code y b L r ∈ lw_all) : GoodIn lw_all (va_wsS own idx y (ws_ y b L r)) := by
  refine lw_app ?_ (lw_meth h4)
  intro w hw
  simp only [List.mem_cons, List.not_mem_nil, or_false] at hw
  rcases hw with e | e | e
  · rw [e]; exact h1
  · rw [e]; exact h2
  · rw [e]; exact h3
/-- the words of a contract for a method WITH HANDLERS (hh: its table) -/
abbrev wsW_ (y : MethodName) (b : ByteArray) (L : Nat) (r : Option FieldType) (hh : List (Nat × Nat × Nat × Nat)) : List Cond := Cond.codeWith y b L r hh :: lw_all
theorem lw_methW {y : MethodName} {b : ByteArray} {L : Nat} {r : Option FieldType} {hh : List (Nat × Nat × Nat × Nat)} (h : Cond.codeWith y b L r hh ∈ lw_all) : GoodIn lw_all (wsW_ y b L r hh) := by
  intro w hw
  rcases List.mem_cons.mp hw with e | e
  · rw [e]
    exact lw_self _ h
  · exact lw_self _ e
/-- any list of words by their places (lw_in), good -/
theorem lw_good {ws : List Cond} (h : ∀ w ∈ ws, w ∈ lw_all) : GoodIn lw_all ws := fun w hw => lw_self w (h w hw)
/-- what a call of a method with handlers asks: vx_cwVW n hts (lw_VW ..), vx_cwSW n hts (lw_SW ..) -/
theorem lw_VW {own : String} {idx : Nat} {C : String} {y : MethodName} {b : ByteArray} {L : Nat} {r : Option FieldType} {hh : List (Nat × Nat × Nat × Nat)} (h1 : Cond.methodLink own idx y ∈ lw_all) (h2 : Cond.instanceMethod y ∈ lw_all) (h3 : Cond.selects C y y ∈ lw_all) (h4 : Cond.initialized C ∈ lw_all) (h5 : Cond.codeWith y b L r hh ∈ lw_all) : GoodIn lw_all (wsV own idx C y (wsW_ y b L r hh)) := by
  refine lw_app ?_ (lw_methW h5)
  intro w hw
  simp only [List.mem_cons, List.not_mem_nil, or_false] at hw
  rcases hw with e | e | e | e
  · rw [e]; exact h1
  · rw [e]; exact h2
  · rw [e]; exact h3
  · rw [e]; exact h4
theorem lw_SW {own : String} {idx : Nat} {y : MethodName} {b : ByteArray} {L : Nat} {r : Option FieldType} {hh : List (Nat × Nat × Nat × Nat)} (h1 : Cond.methodLink own idx y ∈ lw_all) (h2 : Cond.static y ∈ lw_all) (h3 : Cond.initialized y.cls ∈ lw_all) (h4 : Cond.codeWith y b L r hh ∈ lw_all) : GoodIn lw_all (va_wsS own idx y (wsW_ y b L r hh)) := by
  refine lw_app ?_ (lw_methW h4)
  intro w hw
  simp only [List.mem_cons, List.not_mem_nil, or_false] at hw
  rcases hw with e | e | e
  · rw [e]; exact h1
  · rw [e]; exact h2
  · rw [e]; exact h3
/-- a word by its place in its run of the tables -/
theorem lw_at {r : List Cond} (hr : ∀ w ∈ r, w ∈ lw_tbl) {w : Cond} (i : Nat) (h : r[i]? = some w) : w ∈ lw_tbl := hr w (List.mem_of_getElem? h)
theorem lw_g {w : Cond} (h : w ∈ lw_tbl) (g : goodWord w = true) : w ∈ lw_all := List.mem_filter.mpr ⟨h, g⟩
theorem lw_ms : ∀ w ∈ k2_sels lw_privs, w ∈ lw_tbl := fun w h => show w ∈ k2_sels lw_privs ++ tables_1 from List.mem_append_left _ h
theorem lw_m1 : ∀ w ∈ tables_1_1, w ∈ lw_tbl := fun w h => show w ∈ k2_sels lw_privs ++ tables_1 from List.mem_append_right (k2_sels lw_privs) (show w ∈ tables_1 from List.mem_append_left _ h)
theorem lw_m2 : ∀ w ∈ tables_1_2, w ∈ lw_tbl := fun w h => show w ∈ k2_sels lw_privs ++ tables_1 from List.mem_append_right (k2_sels lw_privs) (show w ∈ tables_1 from List.mem_append_right _ (List.mem_append_left _ h))
theorem lw_m3 : ∀ w ∈ tables_1_3, w ∈ lw_tbl := fun w h => show w ∈ k2_sels lw_privs ++ tables_1 from List.mem_append_right (k2_sels lw_privs) (show w ∈ tables_1 from List.mem_append_right _ (List.mem_append_right _ (List.mem_append_left _ h)))
theorem lw_m4 : ∀ w ∈ tables_1_4, w ∈ lw_tbl := fun w h => show w ∈ k2_sels lw_privs ++ tables_1 from List.mem_append_right (k2_sels lw_privs) (show w ∈ tables_1 from List.mem_append_right _ (List.mem_append_right _ (List.mem_append_right _ (List.mem_append_left _ h))))
theorem lw_m5 : ∀ w ∈ tables_1_5, w ∈ lw_tbl := fun w h => show w ∈ k2_sels lw_privs ++ tables_1 from List.mem_append_right (k2_sels lw_privs) (show w ∈ tables_1 from List.mem_append_right _ (List.mem_append_right _ (List.mem_append_right _ (List.mem_append_right _ (List.mem_append_left _ h)))))
theorem lw_m6 : ∀ w ∈ tables_1_6, w ∈ lw_tbl := fun w h => show w ∈ k2_sels lw_privs ++ tables_1 from List.mem_append_right (k2_sels lw_privs) (show w ∈ tables_1 from List.mem_append_right _ (List.mem_append_right _ (List.mem_append_right _ (List.mem_append_right _ (List.mem_append_right _ (List.mem_append_left _ h))))))
theorem lw_m7 : ∀ w ∈ tables_1_7, w ∈ lw_tbl := fun w h => show w ∈ k2_sels lw_privs ++ tables_1 from List.mem_append_right (k2_sels lw_privs) (show w ∈ tables_1 from List.mem_append_right _ (List.mem_append_right _ (List.mem_append_right _ (List.mem_append_right _ (List.mem_append_right _ (List.mem_append_right _ h))))))
theorem qs0 : (Cond.selects "TalkingPlots" ⟨"TalkingPlots", "push", "(I)V"⟩ ⟨"TalkingPlots", "push", "(I)V"⟩) ∈ lw_all := lw_g (lw_at lw_ms 0 rfl) rfl
theorem qs1 : (Cond.selects "TalkingPlots$Reader" ⟨"TalkingPlots$Reader", "isGood", "()Z"⟩ ⟨"TalkingPlots$Reader", "isGood", "()Z"⟩) ∈ lw_all := lw_g (lw_at lw_ms 1 rfl) rfl
theorem qs2 : (Cond.selects "TalkingPlots$Reader" ⟨"TalkingPlots$Reader", "clause", "()V"⟩ ⟨"TalkingPlots$Reader", "clause", "()V"⟩) ∈ lw_all := lw_g (lw_at lw_ms 2 rfl) rfl
theorem qs3 : (Cond.selects "TalkingPlots$Reader" ⟨"TalkingPlots$Reader", "here", "()I"⟩ ⟨"TalkingPlots$Reader", "here", "()I"⟩) ∈ lw_all := lw_g (lw_at lw_ms 3 rfl) rfl
theorem qs4 : (Cond.selects "TalkingPlots$Reader" ⟨"TalkingPlots$Reader", "bad", "(II)V"⟩ ⟨"TalkingPlots$Reader", "bad", "(II)V"⟩) ∈ lw_all := lw_g (lw_at lw_ms 4 rfl) rfl
theorem qs5 : (Cond.selects "TalkingPlots$Reader" ⟨"TalkingPlots$Reader", "sum", "()LTalkingPlots$Sum;"⟩ ⟨"TalkingPlots$Reader", "sum", "()LTalkingPlots$Sum;"⟩) ∈ lw_all := lw_g (lw_at lw_ms 5 rfl) rfl
theorem qs6 : (Cond.selects "TalkingPlots$Reader" ⟨"TalkingPlots$Reader", "product", "()LTalkingPlots$Sum;"⟩ ⟨"TalkingPlots$Reader", "product", "()LTalkingPlots$Sum;"⟩) ∈ lw_all := lw_g (lw_at lw_ms 6 rfl) rfl
theorem qs7 : (Cond.selects "TalkingPlots$Reader" ⟨"TalkingPlots$Reader", "factor", "()LTalkingPlots$Sum;"⟩ ⟨"TalkingPlots$Reader", "factor", "()LTalkingPlots$Sum;"⟩) ∈ lw_all := lw_g (lw_at lw_ms 7 rfl) rfl
theorem qs8 : (Cond.selects "TalkingPlots$Reader" ⟨"TalkingPlots$Reader", "opens", "()V"⟩ ⟨"TalkingPlots$Reader", "opens", "()V"⟩) ∈ lw_all := lw_g (lw_at lw_ms 8 rfl) rfl
theorem qs9 : (Cond.selects "TalkingPlots$Reader" ⟨"TalkingPlots$Reader", "must", "(I)V"⟩ ⟨"TalkingPlots$Reader", "must", "(I)V"⟩) ∈ lw_all := lw_g (lw_at lw_ms 9 rfl) rfl
theorem qs10 : (Cond.selects "TalkingPlots$Reader" ⟨"TalkingPlots$Reader", "seesDigit", "()Z"⟩ ⟨"TalkingPlots$Reader", "seesDigit", "()Z"⟩) ∈ lw_all := lw_g (lw_at lw_ms 10 rfl) rfl
theorem qs11 : (Cond.selects "TalkingPlots$Reader" ⟨"TalkingPlots$Reader", "number", "()I"⟩ ⟨"TalkingPlots$Reader", "number", "()I"⟩) ∈ lw_all := lw_g (lw_at lw_ms 11 rfl) rfl
theorem qs12 : (Cond.selects "TalkingPlots$Reader" ⟨"TalkingPlots$Reader", "condition", "()LTalkingPlots$Condition;"⟩ ⟨"TalkingPlots$Reader", "condition", "()LTalkingPlots$Condition;"⟩) ∈ lw_all := lw_g (lw_at lw_ms 12 rfl) rfl
theorem qs13 : (Cond.selects "TalkingPlots$Reader" ⟨"TalkingPlots$Reader", "pieces", "()LTalkingPlots$Condition;"⟩ ⟨"TalkingPlots$Reader", "pieces", "()LTalkingPlots$Condition;"⟩) ∈ lw_all := lw_g (lw_at lw_ms 13 rfl) rfl
theorem qs14 : (Cond.selects "TalkingPlots$Reader" ⟨"TalkingPlots$Reader", "piece", "()LTalkingPlots$Condition;"⟩ ⟨"TalkingPlots$Reader", "piece", "()LTalkingPlots$Condition;"⟩) ∈ lw_all := lw_g (lw_at lw_ms 14 rfl) rfl
theorem qs15 : (Cond.selects "TalkingPlots" ⟨"TalkingPlots", "isTold", "(I)Z"⟩ ⟨"TalkingPlots", "isTold", "(I)Z"⟩) ∈ lw_all := lw_g (lw_at lw_ms 15 rfl) rfl
theorem qs16 : (Cond.selects "TalkingPlots$Sexton" ⟨"TalkingPlots$Sexton", "does", "(I)V"⟩ ⟨"TalkingPlots$Sexton", "does", "(I)V"⟩) ∈ lw_all := lw_g (lw_at lw_ms 16 rfl) rfl
theorem qs17 : (Cond.selects "TalkingPlots$Sexton" ⟨"TalkingPlots$Sexton", "lays", "(I)V"⟩ ⟨"TalkingPlots$Sexton", "lays", "(I)V"⟩) ∈ lw_all := lw_g (lw_at lw_ms 17 rfl) rfl
theorem qs18 : (Cond.selects "TalkingPlots$Sexton" ⟨"TalkingPlots$Sexton", "changes", "(LTalkingPlots$Person;)V"⟩ ⟨"TalkingPlots$Sexton", "changes", "(LTalkingPlots$Person;)V"⟩) ∈ lw_all := lw_g (lw_at lw_ms 18 rfl) rfl
theorem qs19 : (Cond.selects "TalkingPlots$Sexton" ⟨"TalkingPlots$Sexton", "topic", "(LTalkingPlots$Person;Z)V"⟩ ⟨"TalkingPlots$Sexton", "topic", "(LTalkingPlots$Person;Z)V"⟩) ∈ lw_all := lw_g (lw_at lw_ms 19 rfl) rfl
theorem qs20 : (Cond.selects "TalkingPlots$Yard" ⟨"TalkingPlots$Yard", "nightOf", "(I)V"⟩ ⟨"TalkingPlots$Yard", "nightOf", "(I)V"⟩) ∈ lw_all := lw_g (lw_at lw_ms 20 rfl) rfl
theorem qs21 : (Cond.selects "TalkingPlots$Yard" ⟨"TalkingPlots$Yard", "liked", "(I)I"⟩ ⟨"TalkingPlots$Yard", "liked", "(I)I"⟩) ∈ lw_all := lw_g (lw_at lw_ms 21 rfl) rfl
theorem qs22 : (Cond.selects "TalkingPlots" ⟨"TalkingPlots", "tells", "(II)I"⟩ ⟨"TalkingPlots", "tells", "(II)I"⟩) ∈ lw_all := lw_g (lw_at lw_ms 22 rfl) rfl
theorem qs23 : (Cond.selects "TalkingPlots$Yard" ⟨"TalkingPlots$Yard", "draw", "()I"⟩ ⟨"TalkingPlots$Yard", "draw", "()I"⟩) ∈ lw_all := lw_g (lw_at lw_ms 23 rfl) rfl
theorem qs24 : (Cond.selects "TalkingPlots$Yard" ⟨"TalkingPlots$Yard", "learns", "(LTalkingPlots$Person;LTalkingPlots$Person;)V"⟩ ⟨"TalkingPlots$Yard", "learns", "(LTalkingPlots$Person;LTalkingPlots$Person;)V"⟩) ∈ lw_all := lw_g (lw_at lw_ms 24 rfl) rfl
theorem qs25 : (Cond.selects "TalkingPlots" ⟨"TalkingPlots", "silentIn", "(LTalkingPlots$Yard;)I"⟩ ⟨"TalkingPlots", "silentIn", "(LTalkingPlots$Yard;)I"⟩) ∈ lw_all := lw_g (lw_at lw_ms 25 rfl) rfl
theorem qs26 : (Cond.selects "TalkingPlots" ⟨"TalkingPlots", "rank", "(I)I"⟩ ⟨"TalkingPlots", "rank", "(I)I"⟩) ∈ lw_all := lw_g (lw_at lw_ms 26 rfl) rfl
theorem qs27 : (Cond.selects "TalkingPlots" ⟨"TalkingPlots", "talkAt", "(II)I"⟩ ⟨"TalkingPlots", "talkAt", "(II)I"⟩) ∈ lw_all := lw_g (lw_at lw_ms 27 rfl) rfl
theorem qs28 : (Cond.selects "TalkingPlots" ⟨"TalkingPlots", "swaps", "(LTalkingPlots$Person;LTalkingPlots$Person;)V"⟩ ⟨"TalkingPlots", "swaps", "(LTalkingPlots$Person;LTalkingPlots$Person;)V"⟩) ∈ lw_all := lw_g (lw_at lw_ms 28 rfl) rfl
theorem qs29 : (Cond.selects "TalkingPlots" ⟨"TalkingPlots", "holds", "(I)Z"⟩ ⟨"TalkingPlots", "holds", "(I)Z"⟩) ∈ lw_all := lw_g (lw_at lw_ms 29 rfl) rfl
theorem qs30 : (Cond.selects "TalkingPlots" ⟨"TalkingPlots", "stands", "(IIIII)V"⟩ ⟨"TalkingPlots", "stands", "(IIIII)V"⟩) ∈ lw_all := lw_g (lw_at lw_ms 30 rfl) rfl
theorem qs31 : (Cond.selects "TalkingPlots" ⟨"TalkingPlots", "allHold", "(II)Z"⟩ ⟨"TalkingPlots", "allHold", "(II)Z"⟩) ∈ lw_all := lw_g (lw_at lw_ms 31 rfl) rfl
theorem qs32 : (Cond.selects "TalkingPlots" ⟨"TalkingPlots", "holdsIn", "(II)Z"⟩ ⟨"TalkingPlots", "holdsIn", "(II)Z"⟩) ∈ lw_all := lw_g (lw_at lw_ms 32 rfl) rfl
theorem qs33 : (Cond.selects "TalkingPlots" ⟨"TalkingPlots", "laysSaid", "(I)V"⟩ ⟨"TalkingPlots", "laysSaid", "(I)V"⟩) ∈ lw_all := lw_g (lw_at lw_ms 33 rfl) rfl
theorem qs34 : (Cond.selects "TalkingPlots" ⟨"TalkingPlots", "talkOf", "(II)I"⟩ ⟨"TalkingPlots", "talkOf", "(II)I"⟩) ∈ lw_all := lw_g (lw_at lw_ms 34 rfl) rfl
theorem qs35 : (Cond.selects "TalkingPlots" ⟨"TalkingPlots", "withWhom", "(II)I"⟩ ⟨"TalkingPlots", "withWhom", "(II)I"⟩) ∈ lw_all := lw_g (lw_at lw_ms 35 rfl) rfl
theorem qs36 : (Cond.selects "TalkingPlots" ⟨"TalkingPlots", "spread", "(I)I"⟩ ⟨"TalkingPlots", "spread", "(I)I"⟩) ∈ lw_all := lw_g (lw_at lw_ms 36 rfl) rfl
theorem qs37 : (Cond.selects "TalkingPlots" ⟨"TalkingPlots", "circleOf", "(I)I"⟩ ⟨"TalkingPlots", "circleOf", "(I)I"⟩) ∈ lw_all := lw_g (lw_at lw_ms 37 rfl) rfl
theorem qs38 : (Cond.selects "TalkingPlots" ⟨"TalkingPlots", "saying", "(I)I"⟩ ⟨"TalkingPlots", "saying", "(I)I"⟩) ∈ lw_all := lw_g (lw_at lw_ms 38 rfl) rfl
theorem qs39 : (Cond.selects "TalkingPlots" ⟨"TalkingPlots", "talkOn", "(I)I"⟩ ⟨"TalkingPlots", "talkOn", "(I)I"⟩) ∈ lw_all := lw_g (lw_at lw_ms 39 rfl) rfl
theorem qs40 : (Cond.selects "TalkingPlots" ⟨"TalkingPlots", "largestBlock", "()I"⟩ ⟨"TalkingPlots", "largestBlock", "()I"⟩) ∈ lw_all := lw_g (lw_at lw_ms 40 rfl) rfl
theorem qs41 : (Cond.selects "TalkingPlots" ⟨"TalkingPlots", "laysSteps", "(I)V"⟩ ⟨"TalkingPlots", "laysSteps", "(I)V"⟩) ∈ lw_all := lw_g (lw_at lw_ms 41 rfl) rfl
theorem qs42 : (Cond.selects "TalkingPlots" ⟨"TalkingPlots", "stepsTo", "(I)I"⟩ ⟨"TalkingPlots", "stepsTo", "(I)I"⟩) ∈ lw_all := lw_g (lw_at lw_ms 42 rfl) rfl
theorem qs43 : (Cond.selects "TalkingPlots" ⟨"TalkingPlots", "moodOfAll", "()I"⟩ ⟨"TalkingPlots", "moodOfAll", "()I"⟩) ∈ lw_all := lw_g (lw_at lw_ms 43 rfl) rfl
theorem qs44 : (Cond.selects "TalkingPlotsModel" ⟨"TalkingPlotsModel", "types", "(I)V"⟩ ⟨"TalkingPlotsModel", "types", "(I)V"⟩) ∈ lw_all := lw_g (lw_at lw_ms 44 rfl) rfl
theorem qs45 : (Cond.selects "TalkingPlotsModel" ⟨"TalkingPlotsModel", "beginsText", "(I)V"⟩ ⟨"TalkingPlotsModel", "beginsText", "(I)V"⟩) ∈ lw_all := lw_g (lw_at lw_ms 45 rfl) rfl
theorem qs46 : (Cond.selects "TalkingPlotsModel" ⟨"TalkingPlotsModel", "readsRule", "()Z"⟩ ⟨"TalkingPlotsModel", "readsRule", "()Z"⟩) ∈ lw_all := lw_g (lw_at lw_ms 46 rfl) rfl
theorem qs47 : (Cond.selects "TalkingPlotsModel" ⟨"TalkingPlotsModel", "here", "()I"⟩ ⟨"TalkingPlotsModel", "here", "()I"⟩) ∈ lw_all := lw_g (lw_at lw_ms 47 rfl) rfl
theorem qs48 : (Cond.selects "TalkingPlotsModel" ⟨"TalkingPlotsModel", "wrongAt", "(II)Z"⟩ ⟨"TalkingPlotsModel", "wrongAt", "(II)Z"⟩) ∈ lw_all := lw_g (lw_at lw_ms 48 rfl) rfl
theorem qs49 : (Cond.selects "TalkingPlotsModel" ⟨"TalkingPlotsModel", "readsSum", "()Z"⟩ ⟨"TalkingPlotsModel", "readsSum", "()Z"⟩) ∈ lw_all := lw_g (lw_at lw_ms 49 rfl) rfl
theorem qs50 : (Cond.selects "TalkingPlotsModel" ⟨"TalkingPlotsModel", "readsFactor", "()Z"⟩ ⟨"TalkingPlotsModel", "readsFactor", "()Z"⟩) ∈ lw_all := lw_g (lw_at lw_ms 50 rfl) rfl
theorem qs51 : (Cond.selects "TalkingPlotsModel" ⟨"TalkingPlotsModel", "opens", "(I)Z"⟩ ⟨"TalkingPlotsModel", "opens", "(I)Z"⟩) ∈ lw_all := lw_g (lw_at lw_ms 51 rfl) rfl
theorem qs52 : (Cond.selects "TalkingPlotsModel" ⟨"TalkingPlotsModel", "isDigit", "()Z"⟩ ⟨"TalkingPlotsModel", "isDigit", "()Z"⟩) ∈ lw_all := lw_g (lw_at lw_ms 52 rfl) rfl
theorem qs53 : (Cond.selects "TalkingPlotsModel" ⟨"TalkingPlotsModel", "readsNumber", "()Z"⟩ ⟨"TalkingPlotsModel", "readsNumber", "()Z"⟩) ∈ lw_all := lw_g (lw_at lw_ms 53 rfl) rfl
theorem qs54 : (Cond.selects "TalkingPlotsModel" ⟨"TalkingPlotsModel", "notes", "(II)V"⟩ ⟨"TalkingPlotsModel", "notes", "(II)V"⟩) ∈ lw_all := lw_g (lw_at lw_ms 54 rfl) rfl
theorem qs55 : (Cond.selects "TalkingPlotsModel" ⟨"TalkingPlotsModel", "closesSums", "(Z)V"⟩ ⟨"TalkingPlotsModel", "closesSums", "(Z)V"⟩) ∈ lw_all := lw_g (lw_at lw_ms 55 rfl) rfl
theorem qs56 : (Cond.selects "TalkingPlotsModel" ⟨"TalkingPlotsModel", "waitTop", "()I"⟩ ⟨"TalkingPlotsModel", "waitTop", "()I"⟩) ∈ lw_all := lw_g (lw_at lw_ms 56 rfl) rfl
theorem qs57 : (Cond.selects "TalkingPlotsModel" ⟨"TalkingPlotsModel", "hasOpenSum", "(I)Z"⟩ ⟨"TalkingPlotsModel", "hasOpenSum", "(I)Z"⟩) ∈ lw_all := lw_g (lw_at lw_ms 57 rfl) rfl
theorem qs58 : (Cond.selects "TalkingPlotsModel" ⟨"TalkingPlotsModel", "readsCondition", "()Z"⟩ ⟨"TalkingPlotsModel", "readsCondition", "()Z"⟩) ∈ lw_all := lw_g (lw_at lw_ms 58 rfl) rfl
theorem qs59 : (Cond.selects "TalkingPlotsModel" ⟨"TalkingPlotsModel", "readsCompared", "()Z"⟩ ⟨"TalkingPlotsModel", "readsCompared", "()Z"⟩) ∈ lw_all := lw_g (lw_at lw_ms 59 rfl) rfl
theorem qs60 : (Cond.selects "TalkingPlotsModel" ⟨"TalkingPlotsModel", "endsPiece", "()V"⟩ ⟨"TalkingPlotsModel", "endsPiece", "()V"⟩) ∈ lw_all := lw_g (lw_at lw_ms 60 rfl) rfl
theorem qs61 : (Cond.selects "TalkingPlotsModel" ⟨"TalkingPlotsModel", "lands", "(Z)V"⟩ ⟨"TalkingPlotsModel", "lands", "(Z)V"⟩) ∈ lw_all := lw_g (lw_at lw_ms 61 rfl) rfl
theorem qs62 : (Cond.selects "TalkingPlotsModel" ⟨"TalkingPlotsModel", "jumps", "(I)V"⟩ ⟨"TalkingPlotsModel", "jumps", "(I)V"⟩) ∈ lw_all := lw_g (lw_at lw_ms 62 rfl) rfl
theorem qs63 : (Cond.selects "TalkingPlotsModel" ⟨"TalkingPlotsModel", "takes", "(I)Z"⟩ ⟨"TalkingPlotsModel", "takes", "(I)Z"⟩) ∈ lw_all := lw_g (lw_at lw_ms 63 rfl) rfl
theorem qs64 : (Cond.selects "TalkingPlotsModel" ⟨"TalkingPlotsModel", "readsLine", "()Z"⟩ ⟨"TalkingPlotsModel", "readsLine", "()Z"⟩) ∈ lw_all := lw_g (lw_at lw_ms 64 rfl) rfl
theorem qs65 : (Cond.selects "TalkingPlotsModel" ⟨"TalkingPlotsModel", "isLetter", "()Z"⟩ ⟨"TalkingPlotsModel", "isLetter", "()Z"⟩) ∈ lw_all := lw_g (lw_at lw_ms 65 rfl) rfl
theorem qs66 : (Cond.selects "TalkingPlotsModel" ⟨"TalkingPlotsModel", "isTold", "(I)Z"⟩ ⟨"TalkingPlotsModel", "isTold", "(I)Z"⟩) ∈ lw_all := lw_g (lw_at lw_ms 66 rfl) rfl
theorem qs67 : (Cond.selects "TalkingPlotsModel" ⟨"TalkingPlotsModel", "readsPlot", "(I)Z"⟩ ⟨"TalkingPlotsModel", "readsPlot", "(I)Z"⟩) ∈ lw_all := lw_g (lw_at lw_ms 67 rfl) rfl
theorem qs68 : (Cond.selects "TalkingPlotsModel" ⟨"TalkingPlotsModel", "whoLies", "(I)I"⟩ ⟨"TalkingPlotsModel", "whoLies", "(I)I"⟩) ∈ lw_all := lw_g (lw_at lw_ms 68 rfl) rfl
theorem qs69 : (Cond.selects "TalkingPlotsModel" ⟨"TalkingPlotsModel", "isLaid", "(I)Z"⟩ ⟨"TalkingPlotsModel", "isLaid", "(I)Z"⟩) ∈ lw_all := lw_g (lw_at lw_ms 69 rfl) rfl
theorem qs70 : (Cond.selects "TalkingPlotsModel" ⟨"TalkingPlotsModel", "readsOther", "(I)Z"⟩ ⟨"TalkingPlotsModel", "readsOther", "(I)Z"⟩) ∈ lw_all := lw_g (lw_at lw_ms 70 rfl) rfl
theorem qs71 : (Cond.selects "TalkingPlotsModel" ⟨"TalkingPlotsModel", "readsTopic", "(IZ)Z"⟩ ⟨"TalkingPlotsModel", "readsTopic", "(IZ)Z"⟩) ∈ lw_all := lw_g (lw_at lw_ms 71 rfl) rfl
theorem qs72 : (Cond.selects "TalkingPlotsModel" ⟨"TalkingPlotsModel", "readsWish", "()Z"⟩ ⟨"TalkingPlotsModel", "readsWish", "()Z"⟩) ∈ lw_all := lw_g (lw_at lw_ms 72 rfl) rfl
theorem qs73 : (Cond.selects "TalkingPlotsModel" ⟨"TalkingPlotsModel", "nightsGo", "(I)V"⟩ ⟨"TalkingPlotsModel", "nightsGo", "(I)V"⟩) ∈ lw_all := lw_g (lw_at lw_ms 73 rfl) rfl
theorem qs74 : (Cond.selects "TalkingPlotsModel" ⟨"TalkingPlotsModel", "turnOf", "(I)V"⟩ ⟨"TalkingPlotsModel", "turnOf", "(I)V"⟩) ∈ lw_all := lw_g (lw_at lw_ms 74 rfl) rfl
theorem qs75 : (Cond.selects "TalkingPlotsModel" ⟨"TalkingPlotsModel", "feels", "(II)V"⟩ ⟨"TalkingPlotsModel", "feels", "(II)V"⟩) ∈ lw_all := lw_g (lw_at lw_ms 75 rfl) rfl
theorem qs76 : (Cond.selects "TalkingPlotsModel" ⟨"TalkingPlotsModel", "shared", "(II)I"⟩ ⟨"TalkingPlotsModel", "shared", "(II)I"⟩) ∈ lw_all := lw_g (lw_at lw_ms 76 rfl) rfl
theorem qs77 : (Cond.selects "TalkingPlotsModel" ⟨"TalkingPlotsModel", "besideSet", "(I)I"⟩ ⟨"TalkingPlotsModel", "besideSet", "(I)I"⟩) ∈ lw_all := lw_g (lw_at lw_ms 77 rfl) rfl
theorem qs78 : (Cond.selects "TalkingPlotsModel" ⟨"TalkingPlotsModel", "areBeside", "(II)Z"⟩ ⟨"TalkingPlotsModel", "areBeside", "(II)Z"⟩) ∈ lw_all := lw_g (lw_at lw_ms 78 rfl) rfl
theorem qs79 : (Cond.selects "TalkingPlotsModel" ⟨"TalkingPlotsModel", "holdsAny", "(I)Z"⟩ ⟨"TalkingPlotsModel", "holdsAny", "(I)Z"⟩) ∈ lw_all := lw_g (lw_at lw_ms 79 rfl) rfl
theorem qs80 : (Cond.selects "TalkingPlotsModel" ⟨"TalkingPlotsModel", "comesTo", "(II)I"⟩ ⟨"TalkingPlotsModel", "comesTo", "(II)I"⟩) ∈ lw_all := lw_g (lw_at lw_ms 80 rfl) rfl
theorem qs81 : (Cond.selects "TalkingPlotsModel" ⟨"TalkingPlotsModel", "likesMost", "(I)I"⟩ ⟨"TalkingPlotsModel", "likesMost", "(I)I"⟩) ∈ lw_all := lw_g (lw_at lw_ms 81 rfl) rfl
theorem qs82 : (Cond.selects "TalkingPlotsModel" ⟨"TalkingPlotsModel", "byLaw", "(II)I"⟩ ⟨"TalkingPlotsModel", "byLaw", "(II)I"⟩) ∈ lw_all := lw_g (lw_at lw_ms 82 rfl) rfl
theorem qs83 : (Cond.selects "TalkingPlotsModel" ⟨"TalkingPlotsModel", "learns", "(II)V"⟩ ⟨"TalkingPlotsModel", "learns", "(II)V"⟩) ∈ lw_all := lw_g (lw_at lw_ms 83 rfl) rfl
theorem qs84 : (Cond.selects "TalkingPlotsModel" ⟨"TalkingPlotsModel", "moodless", "()I"⟩ ⟨"TalkingPlotsModel", "moodless", "()I"⟩) ∈ lw_all := lw_g (lw_at lw_ms 84 rfl) rfl
theorem qs85 : (Cond.selects "TalkingPlotsModel" ⟨"TalkingPlotsModel", "rankOf", "(I)I"⟩ ⟨"TalkingPlotsModel", "rankOf", "(I)I"⟩) ∈ lw_all := lw_g (lw_at lw_ms 85 rfl) rfl
theorem qs86 : (Cond.selects "TalkingPlotsModel" ⟨"TalkingPlotsModel", "talkOf", "(II)I"⟩ ⟨"TalkingPlotsModel", "talkOf", "(II)I"⟩) ∈ lw_all := lw_g (lw_at lw_ms 86 rfl) rfl
theorem qs87 : (Cond.selects "TalkingPlotsModel" ⟨"TalkingPlotsModel", "talkAt", "(II)I"⟩ ⟨"TalkingPlotsModel", "talkAt", "(II)I"⟩) ∈ lw_all := lw_g (lw_at lw_ms 87 rfl) rfl
theorem qs88 : (Cond.selects "TalkingPlotsModel" ⟨"TalkingPlotsModel", "changesPlots", "(II)V"⟩ ⟨"TalkingPlotsModel", "changesPlots", "(II)V"⟩) ∈ lw_all := lw_g (lw_at lw_ms 88 rfl) rfl
theorem qs89 : (Cond.selects "TalkingPlotsModel" ⟨"TalkingPlotsModel", "holdsWish", "(I)Z"⟩ ⟨"TalkingPlotsModel", "holdsWish", "(I)Z"⟩) ∈ lw_all := lw_g (lw_at lw_ms 89 rfl) rfl
theorem qs90 : (Cond.selects "TalkingPlotsModel" ⟨"TalkingPlotsModel", "toldSet", "()I"⟩ ⟨"TalkingPlotsModel", "toldSet", "()I"⟩) ∈ lw_all := lw_g (lw_at lw_ms 90 rfl) rfl
theorem qs91 : (Cond.selects "TalkingPlotsModel" ⟨"TalkingPlotsModel", "mayBeOrder", "(I)V"⟩ ⟨"TalkingPlotsModel", "mayBeOrder", "(I)V"⟩) ∈ lw_all := lw_g (lw_at lw_ms 91 rfl) rfl
theorem qs92 : (Cond.selects "TalkingPlotsModel" ⟨"TalkingPlotsModel", "holdsInRow", "(II)Z"⟩ ⟨"TalkingPlotsModel", "holdsInRow", "(II)Z"⟩) ∈ lw_all := lw_g (lw_at lw_ms 92 rfl) rfl
theorem qs93 : (Cond.selects "TalkingPlotsModel" ⟨"TalkingPlotsModel", "nextOrder", "(I)Z"⟩ ⟨"TalkingPlotsModel", "nextOrder", "(I)Z"⟩) ∈ lw_all := lw_g (lw_at lw_ms 93 rfl) rfl
theorem qs94 : (Cond.selects "TalkingPlotsModel" ⟨"TalkingPlotsModel", "changesOrder", "(II)V"⟩ ⟨"TalkingPlotsModel", "changesOrder", "(II)V"⟩) ∈ lw_all := lw_g (lw_at lw_ms 94 rfl) rfl
theorem qs95 : (Cond.selects "TalkingPlotsModel" ⟨"TalkingPlotsModel", "laysCouples", "()V"⟩ ⟨"TalkingPlotsModel", "laysCouples", "()V"⟩) ∈ lw_all := lw_g (lw_at lw_ms 95 rfl) rfl
theorem qs96 : (Cond.selects "TalkingPlotsModel" ⟨"TalkingPlotsModel", "isWith", "(I)I"⟩ ⟨"TalkingPlotsModel", "isWith", "(I)I"⟩) ∈ lw_all := lw_g (lw_at lw_ms 96 rfl) rfl
theorem qs97 : (Cond.selects "TalkingPlotsModel" ⟨"TalkingPlotsModel", "andBeside", "(I)I"⟩ ⟨"TalkingPlotsModel", "andBeside", "(I)I"⟩) ∈ lw_all := lw_g (lw_at lw_ms 97 rfl) rfl
theorem qs98 : (Cond.selects "TalkingPlotsModel" ⟨"TalkingPlotsModel", "circleOf", "(I)I"⟩ ⟨"TalkingPlotsModel", "circleOf", "(I)I"⟩) ∈ lw_all := lw_g (lw_at lw_ms 98 rfl) rfl
theorem qs99 : (Cond.selects "TalkingPlotsModel" ⟨"TalkingPlotsModel", "laidSet", "()I"⟩ ⟨"TalkingPlotsModel", "laidSet", "()I"⟩) ∈ lw_all := lw_g (lw_at lw_ms 99 rfl) rfl
theorem qs100 : (Cond.selects "TalkingPlotsModel" ⟨"TalkingPlotsModel", "sayingOf", "(I)I"⟩ ⟨"TalkingPlotsModel", "sayingOf", "(I)I"⟩) ∈ lw_all := lw_g (lw_at lw_ms 100 rfl) rfl
theorem qs101 : (Cond.selects "TalkingPlotsModel" ⟨"TalkingPlotsModel", "octet", "(I)I"⟩ ⟨"TalkingPlotsModel", "octet", "(I)I"⟩) ∈ lw_all := lw_g (lw_at lw_ms 101 rfl) rfl
theorem qs102 : (Cond.selects "TalkingPlotsModel" ⟨"TalkingPlotsModel", "walksFrom", "(I)I"⟩ ⟨"TalkingPlotsModel", "walksFrom", "(I)I"⟩) ∈ lw_all := lw_g (lw_at lw_ms 102 rfl) rfl
theorem qs103 : (Cond.selects "TalkingPlotsModel" ⟨"TalkingPlotsModel", "isSilent", "(I)Z"⟩ ⟨"TalkingPlotsModel", "isSilent", "(I)Z"⟩) ∈ lw_all := lw_g (lw_at lw_ms 103 rfl) rfl
theorem qs104 : (Cond.selects "TalkingPlotsModel" ⟨"TalkingPlotsModel", "stepsBeside", "(I)I"⟩ ⟨"TalkingPlotsModel", "stepsBeside", "(I)I"⟩) ∈ lw_all := lw_g (lw_at lw_ms 104 rfl) rfl
