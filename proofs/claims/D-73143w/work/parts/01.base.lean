-- ===== PART A: goes FIRST, ahead of the names: the tables' words, and 'selects' of the private methods out of them =====
/-- a private method of a class that the tables say can be made, by its rows of tables_1 -/
def lw_okq (q : MethodName × Nat) : Prop := (q.1.cls ≠ "java/lang/invoke/MethodHandle" ∧ q.1.cls ≠ "java/lang/invoke/VarHandle") ∧ Cond.instantiable q.1.cls q.2 ∈ tables_1 ∧ Cond.privateMethod q.1 ∈ tables_1 ∧ Cond.instanceMethod q.1 ∈ tables_1
set_option maxRecDepth 100000
theorem lw_t1 {w : Cond} (h : w ∈ tables_1_1) : w ∈ tables_1 := List.mem_append_left _ h
theorem lw_t2 {w : Cond} (h : w ∈ tables_1_2) : w ∈ tables_1 := List.mem_append_right _ (List.mem_append_left _ h)
theorem lw_t3 {w : Cond} (h : w ∈ tables_1_3) : w ∈ tables_1 := List.mem_append_right _ (List.mem_append_right _ (List.mem_append_left _ h))
theorem lw_t4 {w : Cond} (h : w ∈ tables_1_4) : w ∈ tables_1 := List.mem_append_right _ (List.mem_append_right _ (List.mem_append_right _ (List.mem_append_left _ h)))
theorem lw_t5 {w : Cond} (h : w ∈ tables_1_5) : w ∈ tables_1 := List.mem_append_right _ (List.mem_append_right _ (List.mem_append_right _ (List.mem_append_right _ (List.mem_append_left _ h))))
theorem lw_t6 {w : Cond} (h : w ∈ tables_1_6) : w ∈ tables_1 := List.mem_append_right _ (List.mem_append_right _ (List.mem_append_right _ (List.mem_append_right _ (List.mem_append_right _ (List.mem_append_left _ h)))))
theorem lw_t7 {w : Cond} (h : w ∈ tables_1_7) : w ∈ tables_1 := List.mem_append_right _ (List.mem_append_right _ (List.mem_append_right _ (List.mem_append_right _ (List.mem_append_right _ (List.mem_append_right _ (List.mem_append_left _ h))))))
theorem lw_t8 {w : Cond} (h : w ∈ tables_1_8) : w ∈ tables_1 := List.mem_append_right _ (List.mem_append_right _ (List.mem_append_right _ (List.mem_append_right _ (List.mem_append_right _ (List.mem_append_right _ (List.mem_append_right _ h))))))
theorem lw_p0 : lw_okq (⟨"SharedWindow", "push", "(I)V"⟩, 20) := ⟨⟨by decide +kernel, by decide +kernel⟩, lw_t1 (List.mem_of_getElem? (i := 28) rfl), lw_t2 (List.mem_of_getElem? (i := 29) rfl), lw_t2 (List.mem_of_getElem? (i := 30) rfl)⟩
theorem lw_p1 : lw_okq (⟨"SharedWindow$Reader", "isGood", "()Z"⟩, 7) := ⟨⟨by decide +kernel, by decide +kernel⟩, lw_t2 (List.mem_of_getElem? (i := 40) rfl), lw_t2 (List.mem_of_getElem? (i := 75) rfl), lw_t2 (List.mem_of_getElem? (i := 76) rfl)⟩
theorem lw_p2 : lw_okq (⟨"SharedWindow$Reader", "clause", "()V"⟩, 7) := ⟨⟨by decide +kernel, by decide +kernel⟩, lw_t2 (List.mem_of_getElem? (i := 40) rfl), lw_t2 (List.mem_of_getElem? (i := 79) rfl), lw_t2 (List.mem_of_getElem? (i := 80) rfl)⟩
theorem lw_p3 : lw_okq (⟨"SharedWindow$Reader", "here", "()I"⟩, 7) := ⟨⟨by decide +kernel, by decide +kernel⟩, lw_t2 (List.mem_of_getElem? (i := 40) rfl), lw_t2 (List.mem_of_getElem? (i := 83) rfl), lw_t2 (List.mem_of_getElem? (i := 84) rfl)⟩
theorem lw_p4 : lw_okq (⟨"SharedWindow$Reader", "bad", "(II)V"⟩, 7) := ⟨⟨by decide +kernel, by decide +kernel⟩, lw_t2 (List.mem_of_getElem? (i := 40) rfl), lw_t2 (List.mem_of_getElem? (i := 174) rfl), lw_t2 (List.mem_of_getElem? (i := 175) rfl)⟩
theorem lw_p5 : lw_okq (⟨"SharedWindow$Reader", "sum", "()LSharedWindow$Sum;"⟩, 7) := ⟨⟨by decide +kernel, by decide +kernel⟩, lw_t2 (List.mem_of_getElem? (i := 40) rfl), lw_t2 (List.mem_of_getElem? (i := 178) rfl), lw_t2 (List.mem_of_getElem? (i := 179) rfl)⟩
theorem lw_p6 : lw_okq (⟨"SharedWindow$Reader", "product", "()LSharedWindow$Sum;"⟩, 7) := ⟨⟨by decide +kernel, by decide +kernel⟩, lw_t2 (List.mem_of_getElem? (i := 40) rfl), lw_t2 (List.mem_of_getElem? (i := 184) rfl), lw_t2 (List.mem_of_getElem? (i := 185) rfl)⟩
theorem lw_p7 : lw_okq (⟨"SharedWindow$Reader", "factor", "()LSharedWindow$Sum;"⟩, 7) := ⟨⟨by decide +kernel, by decide +kernel⟩, lw_t2 (List.mem_of_getElem? (i := 40) rfl), lw_t2 (List.mem_of_getElem? (i := 188) rfl), lw_t2 (List.mem_of_getElem? (i := 189) rfl)⟩
theorem lw_p8 : lw_okq (⟨"SharedWindow$Reader", "opens", "()V"⟩, 7) := ⟨⟨by decide +kernel, by decide +kernel⟩, lw_t2 (List.mem_of_getElem? (i := 40) rfl), lw_t2 (List.mem_of_getElem? (i := 192) rfl), lw_t2 (List.mem_of_getElem? (i := 193) rfl)⟩
theorem lw_p9 : lw_okq (⟨"SharedWindow$Reader", "must", "(I)V"⟩, 7) := ⟨⟨by decide +kernel, by decide +kernel⟩, lw_t2 (List.mem_of_getElem? (i := 40) rfl), lw_t2 (List.mem_of_getElem? (i := 196) rfl), lw_t2 (List.mem_of_getElem? (i := 197) rfl)⟩
theorem lw_p10 : lw_okq (⟨"SharedWindow$Reader", "seesDigit", "()Z"⟩, 7) := ⟨⟨by decide +kernel, by decide +kernel⟩, lw_t2 (List.mem_of_getElem? (i := 40) rfl), lw_t2 (List.mem_of_getElem? (i := 200) rfl), lw_t2 (List.mem_of_getElem? (i := 201) rfl)⟩
theorem lw_p11 : lw_okq (⟨"SharedWindow$Reader", "number", "()I"⟩, 7) := ⟨⟨by decide +kernel, by decide +kernel⟩, lw_t2 (List.mem_of_getElem? (i := 40) rfl), lw_t2 (List.mem_of_getElem? (i := 206) rfl), lw_t2 (List.mem_of_getElem? (i := 207) rfl)⟩
theorem lw_p12 : lw_okq (⟨"SharedWindow$Reader", "condition", "()LSharedWindow$Condition;"⟩, 7) := ⟨⟨by decide +kernel, by decide +kernel⟩, lw_t2 (List.mem_of_getElem? (i := 40) rfl), lw_t3 (List.mem_of_getElem? (i := 7) rfl), lw_t3 (List.mem_of_getElem? (i := 8) rfl)⟩
theorem lw_p13 : lw_okq (⟨"SharedWindow$Reader", "pieces", "()LSharedWindow$Condition;"⟩, 7) := ⟨⟨by decide +kernel, by decide +kernel⟩, lw_t2 (List.mem_of_getElem? (i := 40) rfl), lw_t3 (List.mem_of_getElem? (i := 13) rfl), lw_t3 (List.mem_of_getElem? (i := 14) rfl)⟩
theorem lw_p14 : lw_okq (⟨"SharedWindow$Reader", "piece", "()LSharedWindow$Condition;"⟩, 7) := ⟨⟨by decide +kernel, by decide +kernel⟩, lw_t2 (List.mem_of_getElem? (i := 40) rfl), lw_t3 (List.mem_of_getElem? (i := 17) rfl), lw_t3 (List.mem_of_getElem? (i := 18) rfl)⟩
theorem lw_p15 : lw_okq (⟨"SharedWindow$Surveyor", "line", "()V"⟩, 8) := ⟨⟨by decide +kernel, by decide +kernel⟩, lw_t3 (List.mem_of_getElem? (i := 69) rfl), lw_t3 (List.mem_of_getElem? (i := 110) rfl), lw_t3 (List.mem_of_getElem? (i := 111) rfl)⟩
def lw_privs_1 : List (MethodName × Nat) := [(⟨"SharedWindow", "push", "(I)V"⟩, 20), (⟨"SharedWindow$Reader", "isGood", "()Z"⟩, 7), (⟨"SharedWindow$Reader", "clause", "()V"⟩, 7), (⟨"SharedWindow$Reader", "here", "()I"⟩, 7), (⟨"SharedWindow$Reader", "bad", "(II)V"⟩, 7), (⟨"SharedWindow$Reader", "sum", "()LSharedWindow$Sum;"⟩, 7), (⟨"SharedWindow$Reader", "product", "()LSharedWindow$Sum;"⟩, 7), (⟨"SharedWindow$Reader", "factor", "()LSharedWindow$Sum;"⟩, 7), (⟨"SharedWindow$Reader", "opens", "()V"⟩, 7), (⟨"SharedWindow$Reader", "must", "(I)V"⟩, 7), (⟨"SharedWindow$Reader", "seesDigit", "()Z"⟩, 7), (⟨"SharedWindow$Reader", "number", "()I"⟩, 7), (⟨"SharedWindow$Reader", "condition", "()LSharedWindow$Condition;"⟩, 7), (⟨"SharedWindow$Reader", "pieces", "()LSharedWindow$Condition;"⟩, 7), (⟨"SharedWindow$Reader", "piece", "()LSharedWindow$Condition;"⟩, 7), (⟨"SharedWindow$Surveyor", "line", "()V"⟩, 8)]
theorem lw_r1 : ∀ q ∈ lw_privs_1, lw_okq q := List.forall_mem_cons.mpr ⟨lw_p0, List.forall_mem_cons.mpr ⟨lw_p1, List.forall_mem_cons.mpr ⟨lw_p2, List.forall_mem_cons.mpr ⟨lw_p3, List.forall_mem_cons.mpr ⟨lw_p4, List.forall_mem_cons.mpr ⟨lw_p5, List.forall_mem_cons.mpr ⟨lw_p6, List.forall_mem_cons.mpr ⟨lw_p7, List.forall_mem_cons.mpr ⟨lw_p8, List.forall_mem_cons.mpr ⟨lw_p9, List.forall_mem_cons.mpr ⟨lw_p10, List.forall_mem_cons.mpr ⟨lw_p11, List.forall_mem_cons.mpr ⟨lw_p12, List.forall_mem_cons.mpr ⟨lw_p13, List.forall_mem_cons.mpr ⟨lw_p14, List.forall_mem_cons.mpr ⟨lw_p15, fun _ h => absurd h List.not_mem_nil⟩⟩⟩⟩⟩⟩⟩⟩⟩⟩⟩⟩⟩⟩⟩⟩
theorem lw_p16 : lw_okq (⟨"SharedWindow$Surveyor", "house", "(I)V"⟩, 8) := ⟨⟨by decide +kernel, by decide +kernel⟩, lw_t3 (List.mem_of_getElem? (i := 69) rfl), lw_t3 (List.mem_of_getElem? (i := 159) rfl), lw_t3 (List.mem_of_getElem? (i := 160) rfl)⟩
theorem lw_p17 : lw_okq (⟨"SharedWindow$Surveyor", "number", "()I"⟩, 8) := ⟨⟨by decide +kernel, by decide +kernel⟩, lw_t3 (List.mem_of_getElem? (i := 69) rfl), lw_t3 (List.mem_of_getElem? (i := 163) rfl), lw_t3 (List.mem_of_getElem? (i := 164) rfl)⟩
theorem lw_p18 : lw_okq (⟨"SharedWindow$Surveyor", "thing", "(I)V"⟩, 8) := ⟨⟨by decide +kernel, by decide +kernel⟩, lw_t3 (List.mem_of_getElem? (i := 69) rfl), lw_t3 (List.mem_of_getElem? (i := 167) rfl), lw_t3 (List.mem_of_getElem? (i := 168) rfl)⟩
theorem lw_p19 : lw_okq (⟨"SharedWindow$Clerk", "all", "()V"⟩, 10) := ⟨⟨by decide +kernel, by decide +kernel⟩, lw_t3 (List.mem_of_getElem? (i := 203) rfl), lw_t3 (List.mem_of_getElem? (i := 235) rfl), lw_t3 (List.mem_of_getElem? (i := 236) rfl)⟩
theorem lw_p20 : lw_okq (⟨"SharedWindow$Clerk", "one", "()V"⟩, 10) := ⟨⟨by decide +kernel, by decide +kernel⟩, lw_t3 (List.mem_of_getElem? (i := 203) rfl), lw_t4 (List.mem_of_getElem? (i := 2) rfl), lw_t4 (List.mem_of_getElem? (i := 3) rfl)⟩
theorem lw_p21 : lw_okq (⟨"SharedWindow$Clerk", "rounds", "()V"⟩, 10) := ⟨⟨by decide +kernel, by decide +kernel⟩, lw_t3 (List.mem_of_getElem? (i := 203) rfl), lw_t4 (List.mem_of_getElem? (i := 18) rfl), lw_t4 (List.mem_of_getElem? (i := 19) rfl)⟩
theorem lw_p22 : lw_okq (⟨"SharedWindow$Clerk", "seesOne", "()Z"⟩, 10) := ⟨⟨by decide +kernel, by decide +kernel⟩, lw_t3 (List.mem_of_getElem? (i := 203) rfl), lw_t4 (List.mem_of_getElem? (i := 25) rfl), lw_t4 (List.mem_of_getElem? (i := 26) rfl)⟩
theorem lw_p23 : lw_okq (⟨"SharedWindow$Street", "turnGoes", "(I)V"⟩, 8) := ⟨⟨by decide +kernel, by decide +kernel⟩, lw_t1 (List.mem_of_getElem? (i := 113) rfl), lw_t4 (List.mem_of_getElem? (i := 48) rfl), lw_t4 (List.mem_of_getElem? (i := 49) rfl)⟩
theorem lw_p24 : lw_okq (⟨"SharedWindow$Street", "draw", "()I"⟩, 8) := ⟨⟨by decide +kernel, by decide +kernel⟩, lw_t1 (List.mem_of_getElem? (i := 113) rfl), lw_t4 (List.mem_of_getElem? (i := 52) rfl), lw_t4 (List.mem_of_getElem? (i := 53) rfl)⟩
theorem lw_p25 : lw_okq (⟨"SharedWindow$Street", "isCarried", "(III)V"⟩, 8) := ⟨⟨by decide +kernel, by decide +kernel⟩, lw_t1 (List.mem_of_getElem? (i := 113) rfl), lw_t4 (List.mem_of_getElem? (i := 57) rfl), lw_t4 (List.mem_of_getElem? (i := 58) rfl)⟩
theorem lw_p26 : lw_okq (⟨"SharedWindow$Street", "asked", "(III)LSharedWindow$Moment;"⟩, 8) := ⟨⟨by decide +kernel, by decide +kernel⟩, lw_t1 (List.mem_of_getElem? (i := 113) rfl), lw_t4 (List.mem_of_getElem? (i := 61) rfl), lw_t4 (List.mem_of_getElem? (i := 62) rfl)⟩
theorem lw_p27 : lw_okq (⟨"SharedWindow$Plan", "isSeen", "(III)Z"⟩, 6) := ⟨⟨by decide +kernel, by decide +kernel⟩, lw_t1 (List.mem_of_getElem? (i := 36) rfl), lw_t4 (List.mem_of_getElem? (i := 70) rfl), lw_t4 (List.mem_of_getElem? (i := 71) rfl)⟩
theorem lw_p28 : lw_okq (⟨"SharedWindow", "turnsOf", "(I)I"⟩, 20) := ⟨⟨by decide +kernel, by decide +kernel⟩, lw_t1 (List.mem_of_getElem? (i := 28) rfl), lw_t4 (List.mem_of_getElem? (i := 177) rfl), lw_t4 (List.mem_of_getElem? (i := 178) rfl)⟩
theorem lw_p29 : lw_okq (⟨"SharedWindow", "dark", "(I)I"⟩, 20) := ⟨⟨by decide +kernel, by decide +kernel⟩, lw_t1 (List.mem_of_getElem? (i := 28) rfl), lw_t4 (List.mem_of_getElem? (i := 181) rfl), lw_t4 (List.mem_of_getElem? (i := 182) rfl)⟩
theorem lw_p30 : lw_okq (⟨"SharedWindow", "way", "(Z)I"⟩, 20) := ⟨⟨by decide +kernel, by decide +kernel⟩, lw_t1 (List.mem_of_getElem? (i := 28) rfl), lw_t4 (List.mem_of_getElem? (i := 194) rfl), lw_t4 (List.mem_of_getElem? (i := 195) rfl)⟩
theorem lw_p31 : lw_okq (⟨"SharedWindow", "seenByAll", "()I"⟩, 20) := ⟨⟨by decide +kernel, by decide +kernel⟩, lw_t1 (List.mem_of_getElem? (i := 28) rfl), lw_t4 (List.mem_of_getElem? (i := 199) rfl), lw_t4 (List.mem_of_getElem? (i := 200) rfl)⟩
def lw_privs_2 : List (MethodName × Nat) := [(⟨"SharedWindow$Surveyor", "house", "(I)V"⟩, 8), (⟨"SharedWindow$Surveyor", "number", "()I"⟩, 8), (⟨"SharedWindow$Surveyor", "thing", "(I)V"⟩, 8), (⟨"SharedWindow$Clerk", "all", "()V"⟩, 10), (⟨"SharedWindow$Clerk", "one", "()V"⟩, 10), (⟨"SharedWindow$Clerk", "rounds", "()V"⟩, 10), (⟨"SharedWindow$Clerk", "seesOne", "()Z"⟩, 10), (⟨"SharedWindow$Street", "turnGoes", "(I)V"⟩, 8), (⟨"SharedWindow$Street", "draw", "()I"⟩, 8), (⟨"SharedWindow$Street", "isCarried", "(III)V"⟩, 8), (⟨"SharedWindow$Street", "asked", "(III)LSharedWindow$Moment;"⟩, 8), (⟨"SharedWindow$Plan", "isSeen", "(III)Z"⟩, 6), (⟨"SharedWindow", "turnsOf", "(I)I"⟩, 20), (⟨"SharedWindow", "dark", "(I)I"⟩, 20), (⟨"SharedWindow", "way", "(Z)I"⟩, 20), (⟨"SharedWindow", "seenByAll", "()I"⟩, 20)]
theorem lw_r2 : ∀ q ∈ lw_privs_2, lw_okq q := List.forall_mem_cons.mpr ⟨lw_p16, List.forall_mem_cons.mpr ⟨lw_p17, List.forall_mem_cons.mpr ⟨lw_p18, List.forall_mem_cons.mpr ⟨lw_p19, List.forall_mem_cons.mpr ⟨lw_p20, List.forall_mem_cons.mpr ⟨lw_p21, List.forall_mem_cons.mpr ⟨lw_p22, List.forall_mem_cons.mpr ⟨lw_p23, List.forall_mem_cons.mpr ⟨lw_p24, List.forall_mem_cons.mpr ⟨lw_p25, List.forall_mem_cons.mpr ⟨lw_p26, List.forall_mem_cons.mpr ⟨lw_p27, List.forall_mem_cons.mpr ⟨lw_p28, List.forall_mem_cons.mpr ⟨lw_p29, List.forall_mem_cons.mpr ⟨lw_p30, List.forall_mem_cons.mpr ⟨lw_p31, fun _ h => absurd h List.not_mem_nil⟩⟩⟩⟩⟩⟩⟩⟩⟩⟩⟩⟩⟩⟩⟩⟩
theorem lw_p32 : lw_okq (⟨"SharedWindow", "exchanges", "(II)V"⟩, 20) := ⟨⟨by decide +kernel, by decide +kernel⟩, lw_t1 (List.mem_of_getElem? (i := 28) rfl), lw_t4 (List.mem_of_getElem? (i := 223) rfl), lw_t4 (List.mem_of_getElem? (i := 224) rfl)⟩
theorem lw_p33 : lw_okq (⟨"SharedWindow", "othersReading", "(II)I"⟩, 20) := ⟨⟨by decide +kernel, by decide +kernel⟩, lw_t1 (List.mem_of_getElem? (i := 28) rfl), lw_t4 (List.mem_of_getElem? (i := 235) rfl), lw_t4 (List.mem_of_getElem? (i := 236) rfl)⟩
theorem lw_p34 : lw_okq (⟨"SharedWindow", "clearIn", "(I)I"⟩, 20) := ⟨⟨by decide +kernel, by decide +kernel⟩, lw_t1 (List.mem_of_getElem? (i := 28) rfl), lw_t5 (List.mem_of_getElem? (i := 8) rfl), lw_t5 (List.mem_of_getElem? (i := 9) rfl)⟩
theorem lw_p35 : lw_okq (⟨"SharedWindow", "fed", "(I)I"⟩, 20) := ⟨⟨by decide +kernel, by decide +kernel⟩, lw_t1 (List.mem_of_getElem? (i := 28) rfl), lw_t5 (List.mem_of_getElem? (i := 16) rfl), lw_t5 (List.mem_of_getElem? (i := 17) rfl)⟩
theorem lw_p36 : lw_okq (⟨"SharedWindow", "turnIsLaid", "(II)V"⟩, 20) := ⟨⟨by decide +kernel, by decide +kernel⟩, lw_t1 (List.mem_of_getElem? (i := 28) rfl), lw_t5 (List.mem_of_getElem? (i := 21) rfl), lw_t5 (List.mem_of_getElem? (i := 22) rfl)⟩
theorem lw_p37 : lw_okq (⟨"SharedWindow", "metBy", "(III)I"⟩, 20) := ⟨⟨by decide +kernel, by decide +kernel⟩, lw_t1 (List.mem_of_getElem? (i := 28) rfl), lw_t5 (List.mem_of_getElem? (i := 25) rfl), lw_t5 (List.mem_of_getElem? (i := 26) rfl)⟩
theorem lw_p38 : lw_okq (⟨"SharedWindow", "betters", "(IIII)V"⟩, 20) := ⟨⟨by decide +kernel, by decide +kernel⟩, lw_t1 (List.mem_of_getElem? (i := 28) rfl), lw_t5 (List.mem_of_getElem? (i := 29) rfl), lw_t5 (List.mem_of_getElem? (i := 30) rfl)⟩
theorem lw_p39 : lw_okq (⟨"SharedWindow", "mostSwaps", "(II)I"⟩, 20) := ⟨⟨by decide +kernel, by decide +kernel⟩, lw_t1 (List.mem_of_getElem? (i := 28) rfl), lw_t5 (List.mem_of_getElem? (i := 55) rfl), lw_t5 (List.mem_of_getElem? (i := 56) rfl)⟩
theorem lw_p40 : lw_okq (⟨"SharedWindow", "wouldSwap", "(III)Z"⟩, 20) := ⟨⟨by decide +kernel, by decide +kernel⟩, lw_t1 (List.mem_of_getElem? (i := 28) rfl), lw_t5 (List.mem_of_getElem? (i := 63) rfl), lw_t5 (List.mem_of_getElem? (i := 64) rfl)⟩
theorem lw_p41 : lw_okq (⟨"SharedWindow", "worth", "(III)I"⟩, 20) := ⟨⟨by decide +kernel, by decide +kernel⟩, lw_t1 (List.mem_of_getElem? (i := 28) rfl), lw_t5 (List.mem_of_getElem? (i := 67) rfl), lw_t5 (List.mem_of_getElem? (i := 68) rfl)⟩
theorem lw_p42 : lw_okq (⟨"SharedWindow", "sells", "(IIII)V"⟩, 20) := ⟨⟨by decide +kernel, by decide +kernel⟩, lw_t1 (List.mem_of_getElem? (i := 28) rfl), lw_t5 (List.mem_of_getElem? (i := 75) rfl), lw_t5 (List.mem_of_getElem? (i := 76) rfl)⟩
theorem lw_p43 : lw_okq (⟨"SharedWindow", "areClear", "(IIII)Z"⟩, 20) := ⟨⟨by decide +kernel, by decide +kernel⟩, lw_t1 (List.mem_of_getElem? (i := 28) rfl), lw_t5 (List.mem_of_getElem? (i := 88) rfl), lw_t5 (List.mem_of_getElem? (i := 89) rfl)⟩
theorem lw_p44 : lw_okq (⟨"SharedWindow", "hadBy", "(II)I"⟩, 20) := ⟨⟨by decide +kernel, by decide +kernel⟩, lw_t1 (List.mem_of_getElem? (i := 28) rfl), lw_t5 (List.mem_of_getElem? (i := 96) rfl), lw_t5 (List.mem_of_getElem? (i := 97) rfl)⟩
theorem lw_p45 : lw_okq (⟨"SharedWindowModel", "isHouse", "(I)Z"⟩, 61) := ⟨⟨by decide +kernel, by decide +kernel⟩, lw_t5 (List.mem_of_getElem? (i := 126) rfl), lw_t6 (List.mem_of_getElem? (i := 87) rfl), lw_t6 (List.mem_of_getElem? (i := 88) rfl)⟩
theorem lw_p46 : lw_okq (⟨"SharedWindowModel", "seenBy", "(II)I"⟩, 61) := ⟨⟨by decide +kernel, by decide +kernel⟩, lw_t5 (List.mem_of_getElem? (i := 126) rfl), lw_t6 (List.mem_of_getElem? (i := 98) rfl), lw_t6 (List.mem_of_getElem? (i := 99) rfl)⟩
theorem lw_p47 : lw_okq (⟨"SharedWindowModel", "isThing", "(I)Z"⟩, 61) := ⟨⟨by decide +kernel, by decide +kernel⟩, lw_t5 (List.mem_of_getElem? (i := 126) rfl), lw_t6 (List.mem_of_getElem? (i := 102) rfl), lw_t6 (List.mem_of_getElem? (i := 103) rfl)⟩
def lw_privs_3 : List (MethodName × Nat) := [(⟨"SharedWindow", "exchanges", "(II)V"⟩, 20), (⟨"SharedWindow", "othersReading", "(II)I"⟩, 20), (⟨"SharedWindow", "clearIn", "(I)I"⟩, 20), (⟨"SharedWindow", "fed", "(I)I"⟩, 20), (⟨"SharedWindow", "turnIsLaid", "(II)V"⟩, 20), (⟨"SharedWindow", "metBy", "(III)I"⟩, 20), (⟨"SharedWindow", "betters", "(IIII)V"⟩, 20), (⟨"SharedWindow", "mostSwaps", "(II)I"⟩, 20), (⟨"SharedWindow", "wouldSwap", "(III)Z"⟩, 20), (⟨"SharedWindow", "worth", "(III)I"⟩, 20), (⟨"SharedWindow", "sells", "(IIII)V"⟩, 20), (⟨"SharedWindow", "areClear", "(IIII)Z"⟩, 20), (⟨"SharedWindow", "hadBy", "(II)I"⟩, 20), (⟨"SharedWindowModel", "isHouse", "(I)Z"⟩, 61), (⟨"SharedWindowModel", "seenBy", "(II)I"⟩, 61), (⟨"SharedWindowModel", "isThing", "(I)Z"⟩, 61)]
theorem lw_r3 : ∀ q ∈ lw_privs_3, lw_okq q := List.forall_mem_cons.mpr ⟨lw_p32, List.forall_mem_cons.mpr ⟨lw_p33, List.forall_mem_cons.mpr ⟨lw_p34, List.forall_mem_cons.mpr ⟨lw_p35, List.forall_mem_cons.mpr ⟨lw_p36, List.forall_mem_cons.mpr ⟨lw_p37, List.forall_mem_cons.mpr ⟨lw_p38, List.forall_mem_cons.mpr ⟨lw_p39, List.forall_mem_cons.mpr ⟨lw_p40, List.forall_mem_cons.mpr ⟨lw_p41, List.forall_mem_cons.mpr ⟨lw_p42, List.forall_mem_cons.mpr ⟨lw_p43, List.forall_mem_cons.mpr ⟨lw_p44, List.forall_mem_cons.mpr ⟨lw_p45, List.forall_mem_cons.mpr ⟨lw_p46, List.forall_mem_cons.mpr ⟨lw_p47, fun _ h => absurd h List.not_mem_nil⟩⟩⟩⟩⟩⟩⟩⟩⟩⟩⟩⟩⟩⟩⟩⟩
theorem lw_p48 : lw_okq (⟨"SharedWindowModel", "isSeen", "(III)Z"⟩, 61) := ⟨⟨by decide +kernel, by decide +kernel⟩, lw_t5 (List.mem_of_getElem? (i := 126) rfl), lw_t6 (List.mem_of_getElem? (i := 106) rfl), lw_t6 (List.mem_of_getElem? (i := 107) rfl)⟩
theorem lw_p49 : lw_okq (⟨"SharedWindowModel", "types", "(I)V"⟩, 61) := ⟨⟨by decide +kernel, by decide +kernel⟩, lw_t5 (List.mem_of_getElem? (i := 126) rfl), lw_t6 (List.mem_of_getElem? (i := 114) rfl), lw_t6 (List.mem_of_getElem? (i := 115) rfl)⟩
theorem lw_p50 : lw_okq (⟨"SharedWindowModel", "beginsText", "(I)V"⟩, 61) := ⟨⟨by decide +kernel, by decide +kernel⟩, lw_t5 (List.mem_of_getElem? (i := 126) rfl), lw_t6 (List.mem_of_getElem? (i := 122) rfl), lw_t6 (List.mem_of_getElem? (i := 123) rfl)⟩
theorem lw_p51 : lw_okq (⟨"SharedWindowModel", "readsRule", "()Z"⟩, 61) := ⟨⟨by decide +kernel, by decide +kernel⟩, lw_t5 (List.mem_of_getElem? (i := 126) rfl), lw_t6 (List.mem_of_getElem? (i := 126) rfl), lw_t6 (List.mem_of_getElem? (i := 127) rfl)⟩
theorem lw_p52 : lw_okq (⟨"SharedWindowModel", "here", "()I"⟩, 61) := ⟨⟨by decide +kernel, by decide +kernel⟩, lw_t5 (List.mem_of_getElem? (i := 126) rfl), lw_t6 (List.mem_of_getElem? (i := 130) rfl), lw_t6 (List.mem_of_getElem? (i := 131) rfl)⟩
theorem lw_p53 : lw_okq (⟨"SharedWindowModel", "wrongAt", "(II)Z"⟩, 61) := ⟨⟨by decide +kernel, by decide +kernel⟩, lw_t5 (List.mem_of_getElem? (i := 126) rfl), lw_t6 (List.mem_of_getElem? (i := 134) rfl), lw_t6 (List.mem_of_getElem? (i := 135) rfl)⟩
theorem lw_p54 : lw_okq (⟨"SharedWindowModel", "readsSum", "()Z"⟩, 61) := ⟨⟨by decide +kernel, by decide +kernel⟩, lw_t5 (List.mem_of_getElem? (i := 126) rfl), lw_t6 (List.mem_of_getElem? (i := 138) rfl), lw_t6 (List.mem_of_getElem? (i := 139) rfl)⟩
theorem lw_p55 : lw_okq (⟨"SharedWindowModel", "readsFactor", "()Z"⟩, 61) := ⟨⟨by decide +kernel, by decide +kernel⟩, lw_t5 (List.mem_of_getElem? (i := 126) rfl), lw_t6 (List.mem_of_getElem? (i := 142) rfl), lw_t6 (List.mem_of_getElem? (i := 143) rfl)⟩
theorem lw_p56 : lw_okq (⟨"SharedWindowModel", "opens", "(I)Z"⟩, 61) := ⟨⟨by decide +kernel, by decide +kernel⟩, lw_t5 (List.mem_of_getElem? (i := 126) rfl), lw_t6 (List.mem_of_getElem? (i := 146) rfl), lw_t6 (List.mem_of_getElem? (i := 147) rfl)⟩
theorem lw_p57 : lw_okq (⟨"SharedWindowModel", "isDigit", "()Z"⟩, 61) := ⟨⟨by decide +kernel, by decide +kernel⟩, lw_t5 (List.mem_of_getElem? (i := 126) rfl), lw_t6 (List.mem_of_getElem? (i := 151) rfl), lw_t6 (List.mem_of_getElem? (i := 152) rfl)⟩
theorem lw_p58 : lw_okq (⟨"SharedWindowModel", "readsNumber", "()Z"⟩, 61) := ⟨⟨by decide +kernel, by decide +kernel⟩, lw_t5 (List.mem_of_getElem? (i := 126) rfl), lw_t6 (List.mem_of_getElem? (i := 155) rfl), lw_t6 (List.mem_of_getElem? (i := 156) rfl)⟩
theorem lw_p59 : lw_okq (⟨"SharedWindowModel", "notes", "(II)V"⟩, 61) := ⟨⟨by decide +kernel, by decide +kernel⟩, lw_t5 (List.mem_of_getElem? (i := 126) rfl), lw_t6 (List.mem_of_getElem? (i := 159) rfl), lw_t6 (List.mem_of_getElem? (i := 160) rfl)⟩
theorem lw_p60 : lw_okq (⟨"SharedWindowModel", "closesSums", "(Z)V"⟩, 61) := ⟨⟨by decide +kernel, by decide +kernel⟩, lw_t5 (List.mem_of_getElem? (i := 126) rfl), lw_t6 (List.mem_of_getElem? (i := 169) rfl), lw_t6 (List.mem_of_getElem? (i := 170) rfl)⟩
theorem lw_p61 : lw_okq (⟨"SharedWindowModel", "waitTop", "()I"⟩, 61) := ⟨⟨by decide +kernel, by decide +kernel⟩, lw_t5 (List.mem_of_getElem? (i := 126) rfl), lw_t6 (List.mem_of_getElem? (i := 173) rfl), lw_t6 (List.mem_of_getElem? (i := 174) rfl)⟩
theorem lw_p62 : lw_okq (⟨"SharedWindowModel", "hasOpenSum", "(I)Z"⟩, 61) := ⟨⟨by decide +kernel, by decide +kernel⟩, lw_t5 (List.mem_of_getElem? (i := 126) rfl), lw_t6 (List.mem_of_getElem? (i := 177) rfl), lw_t6 (List.mem_of_getElem? (i := 178) rfl)⟩
theorem lw_p63 : lw_okq (⟨"SharedWindowModel", "readsCondition", "()Z"⟩, 61) := ⟨⟨by decide +kernel, by decide +kernel⟩, lw_t5 (List.mem_of_getElem? (i := 126) rfl), lw_t6 (List.mem_of_getElem? (i := 181) rfl), lw_t6 (List.mem_of_getElem? (i := 182) rfl)⟩
def lw_privs_4 : List (MethodName × Nat) := [(⟨"SharedWindowModel", "isSeen", "(III)Z"⟩, 61), (⟨"SharedWindowModel", "types", "(I)V"⟩, 61), (⟨"SharedWindowModel", "beginsText", "(I)V"⟩, 61), (⟨"SharedWindowModel", "readsRule", "()Z"⟩, 61), (⟨"SharedWindowModel", "here", "()I"⟩, 61), (⟨"SharedWindowModel", "wrongAt", "(II)Z"⟩, 61), (⟨"SharedWindowModel", "readsSum", "()Z"⟩, 61), (⟨"SharedWindowModel", "readsFactor", "()Z"⟩, 61), (⟨"SharedWindowModel", "opens", "(I)Z"⟩, 61), (⟨"SharedWindowModel", "isDigit", "()Z"⟩, 61), (⟨"SharedWindowModel", "readsNumber", "()Z"⟩, 61), (⟨"SharedWindowModel", "notes", "(II)V"⟩, 61), (⟨"SharedWindowModel", "closesSums", "(Z)V"⟩, 61), (⟨"SharedWindowModel", "waitTop", "()I"⟩, 61), (⟨"SharedWindowModel", "hasOpenSum", "(I)Z"⟩, 61), (⟨"SharedWindowModel", "readsCondition", "()Z"⟩, 61)]
theorem lw_r4 : ∀ q ∈ lw_privs_4, lw_okq q := List.forall_mem_cons.mpr ⟨lw_p48, List.forall_mem_cons.mpr ⟨lw_p49, List.forall_mem_cons.mpr ⟨lw_p50, List.forall_mem_cons.mpr ⟨lw_p51, List.forall_mem_cons.mpr ⟨lw_p52, List.forall_mem_cons.mpr ⟨lw_p53, List.forall_mem_cons.mpr ⟨lw_p54, List.forall_mem_cons.mpr ⟨lw_p55, List.forall_mem_cons.mpr ⟨lw_p56, List.forall_mem_cons.mpr ⟨lw_p57, List.forall_mem_cons.mpr ⟨lw_p58, List.forall_mem_cons.mpr ⟨lw_p59, List.forall_mem_cons.mpr ⟨lw_p60, List.forall_mem_cons.mpr ⟨lw_p61, List.forall_mem_cons.mpr ⟨lw_p62, List.forall_mem_cons.mpr ⟨lw_p63, fun _ h => absurd h List.not_mem_nil⟩⟩⟩⟩⟩⟩⟩⟩⟩⟩⟩⟩⟩⟩⟩⟩
theorem lw_p64 : lw_okq (⟨"SharedWindowModel", "readsCompared", "()Z"⟩, 61) := ⟨⟨by decide +kernel, by decide +kernel⟩, lw_t5 (List.mem_of_getElem? (i := 126) rfl), lw_t6 (List.mem_of_getElem? (i := 185) rfl), lw_t6 (List.mem_of_getElem? (i := 186) rfl)⟩
theorem lw_p65 : lw_okq (⟨"SharedWindowModel", "endsPiece", "()V"⟩, 61) := ⟨⟨by decide +kernel, by decide +kernel⟩, lw_t5 (List.mem_of_getElem? (i := 126) rfl), lw_t6 (List.mem_of_getElem? (i := 189) rfl), lw_t6 (List.mem_of_getElem? (i := 190) rfl)⟩
theorem lw_p66 : lw_okq (⟨"SharedWindowModel", "lands", "(Z)V"⟩, 61) := ⟨⟨by decide +kernel, by decide +kernel⟩, lw_t5 (List.mem_of_getElem? (i := 126) rfl), lw_t6 (List.mem_of_getElem? (i := 193) rfl), lw_t6 (List.mem_of_getElem? (i := 194) rfl)⟩
theorem lw_p67 : lw_okq (⟨"SharedWindowModel", "jumps", "(I)V"⟩, 61) := ⟨⟨by decide +kernel, by decide +kernel⟩, lw_t5 (List.mem_of_getElem? (i := 126) rfl), lw_t6 (List.mem_of_getElem? (i := 197) rfl), lw_t6 (List.mem_of_getElem? (i := 198) rfl)⟩
theorem lw_p68 : lw_okq (⟨"SharedWindowModel", "takes", "(I)Z"⟩, 61) := ⟨⟨by decide +kernel, by decide +kernel⟩, lw_t5 (List.mem_of_getElem? (i := 126) rfl), lw_t6 (List.mem_of_getElem? (i := 201) rfl), lw_t6 (List.mem_of_getElem? (i := 202) rfl)⟩
theorem lw_p69 : lw_okq (⟨"SharedWindowModel", "readsLine", "()Z"⟩, 61) := ⟨⟨by decide +kernel, by decide +kernel⟩, lw_t5 (List.mem_of_getElem? (i := 126) rfl), lw_t6 (List.mem_of_getElem? (i := 209) rfl), lw_t6 (List.mem_of_getElem? (i := 210) rfl)⟩
theorem lw_p70 : lw_okq (⟨"SharedWindowModel", "readsHouse", "(I)Z"⟩, 61) := ⟨⟨by decide +kernel, by decide +kernel⟩, lw_t5 (List.mem_of_getElem? (i := 126) rfl), lw_t6 (List.mem_of_getElem? (i := 213) rfl), lw_t6 (List.mem_of_getElem? (i := 214) rfl)⟩
theorem lw_p71 : lw_okq (⟨"SharedWindowModel", "readsWithin", "()Z"⟩, 61) := ⟨⟨by decide +kernel, by decide +kernel⟩, lw_t5 (List.mem_of_getElem? (i := 126) rfl), lw_t6 (List.mem_of_getElem? (i := 217) rfl), lw_t6 (List.mem_of_getElem? (i := 218) rfl)⟩
theorem lw_p72 : lw_okq (⟨"SharedWindowModel", "readsThing", "(I)Z"⟩, 61) := ⟨⟨by decide +kernel, by decide +kernel⟩, lw_t5 (List.mem_of_getElem? (i := 126) rfl), lw_t6 (List.mem_of_getElem? (i := 221) rfl), lw_t6 (List.mem_of_getElem? (i := 222) rfl)⟩
theorem lw_p73 : lw_okq (⟨"SharedWindowModel", "readsTurn", "()Z"⟩, 61) := ⟨⟨by decide +kernel, by decide +kernel⟩, lw_t5 (List.mem_of_getElem? (i := 126) rfl), lw_t6 (List.mem_of_getElem? (i := 229) rfl), lw_t6 (List.mem_of_getElem? (i := 230) rfl)⟩
theorem lw_p74 : lw_okq (⟨"SharedWindowModel", "readsTimes", "()V"⟩, 61) := ⟨⟨by decide +kernel, by decide +kernel⟩, lw_t5 (List.mem_of_getElem? (i := 126) rfl), lw_t6 (List.mem_of_getElem? (i := 233) rfl), lw_t6 (List.mem_of_getElem? (i := 234) rfl)⟩
theorem lw_p75 : lw_okq (⟨"SharedWindowModel", "repeats", "(III)Z"⟩, 61) := ⟨⟨by decide +kernel, by decide +kernel⟩, lw_t5 (List.mem_of_getElem? (i := 126) rfl), lw_t6 (List.mem_of_getElem? (i := 237) rfl), lw_t6 (List.mem_of_getElem? (i := 238) rfl)⟩
theorem lw_p76 : lw_okq (⟨"SharedWindowModel", "areTold", "()Z"⟩, 61) := ⟨⟨by decide +kernel, by decide +kernel⟩, lw_t5 (List.mem_of_getElem? (i := 126) rfl), lw_t7 (List.mem_of_getElem? (i := 1) rfl), lw_t7 (List.mem_of_getElem? (i := 2) rfl)⟩
theorem lw_p77 : lw_okq (⟨"SharedWindowModel", "daysGo", "(I)V"⟩, 61) := ⟨⟨by decide +kernel, by decide +kernel⟩, lw_t5 (List.mem_of_getElem? (i := 126) rfl), lw_t7 (List.mem_of_getElem? (i := 9) rfl), lw_t7 (List.mem_of_getElem? (i := 10) rfl)⟩
theorem lw_p78 : lw_okq (⟨"SharedWindowModel", "dayGoes", "()V"⟩, 61) := ⟨⟨by decide +kernel, by decide +kernel⟩, lw_t5 (List.mem_of_getElem? (i := 126) rfl), lw_t7 (List.mem_of_getElem? (i := 13) rfl), lw_t7 (List.mem_of_getElem? (i := 14) rfl)⟩
theorem lw_p79 : lw_okq (⟨"SharedWindowModel", "turnGoes", "(I)V"⟩, 61) := ⟨⟨by decide +kernel, by decide +kernel⟩, lw_t5 (List.mem_of_getElem? (i := 126) rfl), lw_t7 (List.mem_of_getElem? (i := 17) rfl), lw_t7 (List.mem_of_getElem? (i := 18) rfl)⟩
def lw_privs_5 : List (MethodName × Nat) := [(⟨"SharedWindowModel", "readsCompared", "()Z"⟩, 61), (⟨"SharedWindowModel", "endsPiece", "()V"⟩, 61), (⟨"SharedWindowModel", "lands", "(Z)V"⟩, 61), (⟨"SharedWindowModel", "jumps", "(I)V"⟩, 61), (⟨"SharedWindowModel", "takes", "(I)Z"⟩, 61), (⟨"SharedWindowModel", "readsLine", "()Z"⟩, 61), (⟨"SharedWindowModel", "readsHouse", "(I)Z"⟩, 61), (⟨"SharedWindowModel", "readsWithin", "()Z"⟩, 61), (⟨"SharedWindowModel", "readsThing", "(I)Z"⟩, 61), (⟨"SharedWindowModel", "readsTurn", "()Z"⟩, 61), (⟨"SharedWindowModel", "readsTimes", "()V"⟩, 61), (⟨"SharedWindowModel", "repeats", "(III)Z"⟩, 61), (⟨"SharedWindowModel", "areTold", "()Z"⟩, 61), (⟨"SharedWindowModel", "daysGo", "(I)V"⟩, 61), (⟨"SharedWindowModel", "dayGoes", "()V"⟩, 61), (⟨"SharedWindowModel", "turnGoes", "(I)V"⟩, 61)]
theorem lw_r5 : ∀ q ∈ lw_privs_5, lw_okq q := List.forall_mem_cons.mpr ⟨lw_p64, List.forall_mem_cons.mpr ⟨lw_p65, List.forall_mem_cons.mpr ⟨lw_p66, List.forall_mem_cons.mpr ⟨lw_p67, List.forall_mem_cons.mpr ⟨lw_p68, List.forall_mem_cons.mpr ⟨lw_p69, List.forall_mem_cons.mpr ⟨lw_p70, List.forall_mem_cons.mpr ⟨lw_p71, List.forall_mem_cons.mpr ⟨lw_p72, List.forall_mem_cons.mpr ⟨lw_p73, List.forall_mem_cons.mpr ⟨lw_p74, List.forall_mem_cons.mpr ⟨lw_p75, List.forall_mem_cons.mpr ⟨lw_p76, List.forall_mem_cons.mpr ⟨lw_p77, List.forall_mem_cons.mpr ⟨lw_p78, List.forall_mem_cons.mpr ⟨lw_p79, fun _ h => absurd h List.not_mem_nil⟩⟩⟩⟩⟩⟩⟩⟩⟩⟩⟩⟩⟩⟩⟩⟩
theorem lw_p80 : lw_okq (⟨"SharedWindowModel", "isCarried", "(III)V"⟩, 61) := ⟨⟨by decide +kernel, by decide +kernel⟩, lw_t5 (List.mem_of_getElem? (i := 126) rfl), lw_t7 (List.mem_of_getElem? (i := 21) rfl), lw_t7 (List.mem_of_getElem? (i := 22) rfl)⟩
theorem lw_p81 : lw_okq (⟨"SharedWindowModel", "feels", "(III)V"⟩, 61) := ⟨⟨by decide +kernel, by decide +kernel⟩, lw_t5 (List.mem_of_getElem? (i := 126) rfl), lw_t7 (List.mem_of_getElem? (i := 25) rfl), lw_t7 (List.mem_of_getElem? (i := 26) rfl)⟩
theorem lw_p82 : lw_okq (⟨"SharedWindowModel", "holdsAny", "(I)Z"⟩, 61) := ⟨⟨by decide +kernel, by decide +kernel⟩, lw_t5 (List.mem_of_getElem? (i := 126) rfl), lw_t7 (List.mem_of_getElem? (i := 35) rfl), lw_t7 (List.mem_of_getElem? (i := 36) rfl)⟩
theorem lw_p83 : lw_okq (⟨"SharedWindowModel", "reckonsTo", "(II)I"⟩, 61) := ⟨⟨by decide +kernel, by decide +kernel⟩, lw_t5 (List.mem_of_getElem? (i := 126) rfl), lw_t7 (List.mem_of_getElem? (i := 39) rfl), lw_t7 (List.mem_of_getElem? (i := 40) rfl)⟩
theorem lw_p84 : lw_okq (⟨"SharedWindowModel", "byLaw", "(III)I"⟩, 61) := ⟨⟨by decide +kernel, by decide +kernel⟩, lw_t5 (List.mem_of_getElem? (i := 126) rfl), lw_t7 (List.mem_of_getElem? (i := 46) rfl), lw_t7 (List.mem_of_getElem? (i := 47) rfl)⟩
theorem lw_p85 : lw_okq (⟨"SharedWindowModel", "joyOfAll", "()I"⟩, 61) := ⟨⟨by decide +kernel, by decide +kernel⟩, lw_t5 (List.mem_of_getElem? (i := 126) rfl), lw_t7 (List.mem_of_getElem? (i := 64) rfl), lw_t7 (List.mem_of_getElem? (i := 65) rfl)⟩
theorem lw_p86 : lw_okq (⟨"SharedWindowModel", "turnsOf", "(I)I"⟩, 61) := ⟨⟨by decide +kernel, by decide +kernel⟩, lw_t5 (List.mem_of_getElem? (i := 126) rfl), lw_t7 (List.mem_of_getElem? (i := 72) rfl), lw_t7 (List.mem_of_getElem? (i := 73) rfl)⟩
theorem lw_p87 : lw_okq (⟨"SharedWindowModel", "darkOf", "(I)I"⟩, 61) := ⟨⟨by decide +kernel, by decide +kernel⟩, lw_t5 (List.mem_of_getElem? (i := 126) rfl), lw_t7 (List.mem_of_getElem? (i := 76) rfl), lw_t7 (List.mem_of_getElem? (i := 77) rfl)⟩
theorem lw_p88 : lw_okq (⟨"SharedWindowModel", "everSeenBy", "(I)I"⟩, 61) := ⟨⟨by decide +kernel, by decide +kernel⟩, lw_t5 (List.mem_of_getElem? (i := 126) rfl), lw_t7 (List.mem_of_getElem? (i := 86) rfl), lw_t7 (List.mem_of_getElem? (i := 87) rfl)⟩
theorem lw_p89 : lw_okq (⟨"SharedWindowModel", "wayOf", "(Z)I"⟩, 61) := ⟨⟨by decide +kernel, by decide +kernel⟩, lw_t5 (List.mem_of_getElem? (i := 126) rfl), lw_t7 (List.mem_of_getElem? (i := 94) rfl), lw_t7 (List.mem_of_getElem? (i := 95) rfl)⟩
theorem lw_p90 : lw_okq (⟨"SharedWindowModel", "seenByRota", "()I"⟩, 61) := ⟨⟨by decide +kernel, by decide +kernel⟩, lw_t5 (List.mem_of_getElem? (i := 126) rfl), lw_t7 (List.mem_of_getElem? (i := 98) rfl), lw_t7 (List.mem_of_getElem? (i := 99) rfl)⟩
theorem lw_p91 : lw_okq (⟨"SharedWindowModel", "lightOf", "(I)I"⟩, 61) := ⟨⟨by decide +kernel, by decide +kernel⟩, lw_t5 (List.mem_of_getElem? (i := 126) rfl), lw_t7 (List.mem_of_getElem? (i := 110) rfl), lw_t7 (List.mem_of_getElem? (i := 111) rfl)⟩
theorem lw_p92 : lw_okq (⟨"SharedWindowModel", "changesTurns", "(II)V"⟩, 61) := ⟨⟨by decide +kernel, by decide +kernel⟩, lw_t5 (List.mem_of_getElem? (i := 126) rfl), lw_t7 (List.mem_of_getElem? (i := 122) rfl), lw_t7 (List.mem_of_getElem? (i := 123) rfl)⟩
theorem lw_p93 : lw_okq (⟨"SharedWindowModel", "readersOf", "(II)I"⟩, 61) := ⟨⟨by decide +kernel, by decide +kernel⟩, lw_t5 (List.mem_of_getElem? (i := 126) rfl), lw_t7 (List.mem_of_getElem? (i := 134) rfl), lw_t7 (List.mem_of_getElem? (i := 135) rfl)⟩
theorem lw_p94 : lw_okq (⟨"SharedWindowModel", "othersWhoRead", "(II)I"⟩, 61) := ⟨⟨by decide +kernel, by decide +kernel⟩, lw_t5 (List.mem_of_getElem? (i := 126) rfl), lw_t7 (List.mem_of_getElem? (i := 142) rfl), lw_t7 (List.mem_of_getElem? (i := 143) rfl)⟩
theorem lw_p95 : lw_okq (⟨"SharedWindowModel", "twosAt", "(I)I"⟩, 61) := ⟨⟨by decide +kernel, by decide +kernel⟩, lw_t5 (List.mem_of_getElem? (i := 126) rfl), lw_t7 (List.mem_of_getElem? (i := 150) rfl), lw_t7 (List.mem_of_getElem? (i := 151) rfl)⟩
def lw_privs_6 : List (MethodName × Nat) := [(⟨"SharedWindowModel", "isCarried", "(III)V"⟩, 61), (⟨"SharedWindowModel", "feels", "(III)V"⟩, 61), (⟨"SharedWindowModel", "holdsAny", "(I)Z"⟩, 61), (⟨"SharedWindowModel", "reckonsTo", "(II)I"⟩, 61), (⟨"SharedWindowModel", "byLaw", "(III)I"⟩, 61), (⟨"SharedWindowModel", "joyOfAll", "()I"⟩, 61), (⟨"SharedWindowModel", "turnsOf", "(I)I"⟩, 61), (⟨"SharedWindowModel", "darkOf", "(I)I"⟩, 61), (⟨"SharedWindowModel", "everSeenBy", "(I)I"⟩, 61), (⟨"SharedWindowModel", "wayOf", "(Z)I"⟩, 61), (⟨"SharedWindowModel", "seenByRota", "()I"⟩, 61), (⟨"SharedWindowModel", "lightOf", "(I)I"⟩, 61), (⟨"SharedWindowModel", "changesTurns", "(II)V"⟩, 61), (⟨"SharedWindowModel", "readersOf", "(II)I"⟩, 61), (⟨"SharedWindowModel", "othersWhoRead", "(II)I"⟩, 61), (⟨"SharedWindowModel", "twosAt", "(I)I"⟩, 61)]
theorem lw_r6 : ∀ q ∈ lw_privs_6, lw_okq q := List.forall_mem_cons.mpr ⟨lw_p80, List.forall_mem_cons.mpr ⟨lw_p81, List.forall_mem_cons.mpr ⟨lw_p82, List.forall_mem_cons.mpr ⟨lw_p83, List.forall_mem_cons.mpr ⟨lw_p84, List.forall_mem_cons.mpr ⟨lw_p85, List.forall_mem_cons.mpr ⟨lw_p86, List.forall_mem_cons.mpr ⟨lw_p87, List.forall_mem_cons.mpr ⟨lw_p88, List.forall_mem_cons.mpr ⟨lw_p89, List.forall_mem_cons.mpr ⟨lw_p90, List.forall_mem_cons.mpr ⟨lw_p91, List.forall_mem_cons.mpr ⟨lw_p92, List.forall_mem_cons.mpr ⟨lw_p93, List.forall_mem_cons.mpr ⟨lw_p94, List.forall_mem_cons.mpr ⟨lw_p95, fun _ h => absurd h List.not_mem_nil⟩⟩⟩⟩⟩⟩⟩⟩⟩⟩⟩⟩⟩⟩⟩⟩
theorem lw_p96 : lw_okq (⟨"SharedWindowModel", "octet", "(I)I"⟩, 61) := ⟨⟨by decide +kernel, by decide +kernel⟩, lw_t5 (List.mem_of_getElem? (i := 126) rfl), lw_t7 (List.mem_of_getElem? (i := 163) rfl), lw_t7 (List.mem_of_getElem? (i := 164) rfl)⟩
theorem lw_p97 : lw_okq (⟨"SharedWindowModel", "leastOfAll", "(I)I"⟩, 61) := ⟨⟨by decide +kernel, by decide +kernel⟩, lw_t5 (List.mem_of_getElem? (i := 126) rfl), lw_t7 (List.mem_of_getElem? (i := 167) rfl), lw_t7 (List.mem_of_getElem? (i := 168) rfl)⟩
theorem lw_p98 : lw_okq (⟨"SharedWindowModel", "choosesHouse", "(III)V"⟩, 61) := ⟨⟨by decide +kernel, by decide +kernel⟩, lw_t5 (List.mem_of_getElem? (i := 126) rfl), lw_t7 (List.mem_of_getElem? (i := 175) rfl), lw_t7 (List.mem_of_getElem? (i := 176) rfl)⟩
theorem lw_p99 : lw_okq (⟨"SharedWindowModel", "metBy", "(III)I"⟩, 61) := ⟨⟨by decide +kernel, by decide +kernel⟩, lw_t5 (List.mem_of_getElem? (i := 126) rfl), lw_t7 (List.mem_of_getElem? (i := 179) rfl), lw_t7 (List.mem_of_getElem? (i := 180) rfl)⟩
theorem lw_p100 : lw_okq (⟨"SharedWindowModel", "bestSet", "()I"⟩, 61) := ⟨⟨by decide +kernel, by decide +kernel⟩, lw_t5 (List.mem_of_getElem? (i := 126) rfl), lw_t7 (List.mem_of_getElem? (i := 187) rfl), lw_t7 (List.mem_of_getElem? (i := 188) rfl)⟩
theorem lw_p101 : lw_okq (⟨"SharedWindowModel", "fits", "(II)Z"⟩, 61) := ⟨⟨by decide +kernel, by decide +kernel⟩, lw_t5 (List.mem_of_getElem? (i := 126) rfl), lw_t7 (List.mem_of_getElem? (i := 198) rfl), lw_t7 (List.mem_of_getElem? (i := 199) rfl)⟩
theorem lw_p102 : lw_okq (⟨"SharedWindowModel", "sumFrom", "(II)I"⟩, 61) := ⟨⟨by decide +kernel, by decide +kernel⟩, lw_t5 (List.mem_of_getElem? (i := 126) rfl), lw_t7 (List.mem_of_getElem? (i := 206) rfl), lw_t7 (List.mem_of_getElem? (i := 207) rfl)⟩
theorem lw_p103 : lw_okq (⟨"SharedWindowModel", "mostAtOnce", "(I)I"⟩, 61) := ⟨⟨by decide +kernel, by decide +kernel⟩, lw_t5 (List.mem_of_getElem? (i := 126) rfl), lw_t7 (List.mem_of_getElem? (i := 214) rfl), lw_t7 (List.mem_of_getElem? (i := 215) rfl)⟩
theorem lw_p104 : lw_okq (⟨"SharedWindowModel", "bothWould", "(III)Z"⟩, 61) := ⟨⟨by decide +kernel, by decide +kernel⟩, lw_t5 (List.mem_of_getElem? (i := 126) rfl), lw_t7 (List.mem_of_getElem? (i := 218) rfl), lw_t7 (List.mem_of_getElem? (i := 219) rfl)⟩
theorem lw_p105 : lw_okq (⟨"SharedWindowModel", "worth", "(III)I"⟩, 61) := ⟨⟨by decide +kernel, by decide +kernel⟩, lw_t5 (List.mem_of_getElem? (i := 126) rfl), lw_t7 (List.mem_of_getElem? (i := 222) rfl), lw_t7 (List.mem_of_getElem? (i := 223) rfl)⟩
theorem lw_p106 : lw_okq (⟨"SharedWindowModel", "laysSale", "(I)V"⟩, 61) := ⟨⟨by decide +kernel, by decide +kernel⟩, lw_t5 (List.mem_of_getElem? (i := 126) rfl), lw_t7 (List.mem_of_getElem? (i := 230) rfl), lw_t7 (List.mem_of_getElem? (i := 231) rfl)⟩
theorem lw_p107 : lw_okq (⟨"SharedWindowModel", "tallFrom", "(IIII)I"⟩, 61) := ⟨⟨by decide +kernel, by decide +kernel⟩, lw_t5 (List.mem_of_getElem? (i := 126) rfl), lw_t8 (List.mem_of_getElem? (i := 3) rfl), lw_t8 (List.mem_of_getElem? (i := 4) rfl)⟩
theorem lw_p108 : lw_okq (⟨"SharedWindowModel", "hasBy", "(II)I"⟩, 61) := ⟨⟨by decide +kernel, by decide +kernel⟩, lw_t5 (List.mem_of_getElem? (i := 126) rfl), lw_t8 (List.mem_of_getElem? (i := 14) rfl), lw_t8 (List.mem_of_getElem? (i := 15) rfl)⟩
def lw_privs_7 : List (MethodName × Nat) := [(⟨"SharedWindowModel", "octet", "(I)I"⟩, 61), (⟨"SharedWindowModel", "leastOfAll", "(I)I"⟩, 61), (⟨"SharedWindowModel", "choosesHouse", "(III)V"⟩, 61), (⟨"SharedWindowModel", "metBy", "(III)I"⟩, 61), (⟨"SharedWindowModel", "bestSet", "()I"⟩, 61), (⟨"SharedWindowModel", "fits", "(II)Z"⟩, 61), (⟨"SharedWindowModel", "sumFrom", "(II)I"⟩, 61), (⟨"SharedWindowModel", "mostAtOnce", "(I)I"⟩, 61), (⟨"SharedWindowModel", "bothWould", "(III)Z"⟩, 61), (⟨"SharedWindowModel", "worth", "(III)I"⟩, 61), (⟨"SharedWindowModel", "laysSale", "(I)V"⟩, 61), (⟨"SharedWindowModel", "tallFrom", "(IIII)I"⟩, 61), (⟨"SharedWindowModel", "hasBy", "(II)I"⟩, 61)]
theorem lw_r7 : ∀ q ∈ lw_privs_7, lw_okq q := List.forall_mem_cons.mpr ⟨lw_p96, List.forall_mem_cons.mpr ⟨lw_p97, List.forall_mem_cons.mpr ⟨lw_p98, List.forall_mem_cons.mpr ⟨lw_p99, List.forall_mem_cons.mpr ⟨lw_p100, List.forall_mem_cons.mpr ⟨lw_p101, List.forall_mem_cons.mpr ⟨lw_p102, List.forall_mem_cons.mpr ⟨lw_p103, List.forall_mem_cons.mpr ⟨lw_p104, List.forall_mem_cons.mpr ⟨lw_p105, List.forall_mem_cons.mpr ⟨lw_p106, List.forall_mem_cons.mpr ⟨lw_p107, List.forall_mem_cons.mpr ⟨lw_p108, fun _ h => absurd h List.not_mem_nil⟩⟩⟩⟩⟩⟩⟩⟩⟩⟩⟩⟩⟩
def lw_privs : List (MethodName × Nat) := lw_privs_1 ++ (lw_privs_2 ++ (lw_privs_3 ++ (lw_privs_4 ++ (lw_privs_5 ++ (lw_privs_6 ++ (lw_privs_7))))))
def lw_tbl : List Cond := k2_sels lw_privs ++ tables_1
theorem lw_privs_ok : ∀ q ∈ lw_privs, lw_okq q := by
  show ∀ q ∈ lw_privs_1 ++ (lw_privs_2 ++ (lw_privs_3 ++ (lw_privs_4 ++ (lw_privs_5 ++ (lw_privs_6 ++ (lw_privs_7)))))), lw_okq q
  exact List.forall_mem_append.mpr ⟨lw_r1, List.forall_mem_append.mpr ⟨lw_r2, List.forall_mem_append.mpr ⟨lw_r3, List.forall_mem_append.mpr ⟨lw_r4, List.forall_mem_append.mpr ⟨lw_r5, List.forall_mem_append.mpr ⟨lw_r6, lw_r7⟩⟩⟩⟩⟩⟩
-- ===== ONE list of words for every method: the tables' words that hold all through a run =====
def lw_all : List Cond := lw_tbl.filter goodWord
/-- a word of the tables by its place: claim/WORDS.tsv -/
theorem lw_w {w : Cond} (i : Nat) (h : lw_tbl[i]? = some w) (g : goodWord w = true) : w ∈ lw_all := List.mem_filter.mpr ⟨List.mem_of_getElem? h, g⟩
theorem lw_all_tbl {w : Cond} (h : w ∈ lw_all) : w ∈ lw_tbl := (List.mem_filter.mp h).1
theorem lw_self : GoodIn lw_all lw_all := fun w h => ⟨h, good_of_word (List.mem_filter.mp h).2⟩
/-- a class's field words, by their places -/
theorem lw_in (ws : List Cond) (ps : List Nat) (hp : ws = ps.filterMap (fun i => lw_tbl[i]?)) (hg : ws.all goodWord = true) : ∀ w ∈ ws, w ∈ lw_all := by
  intro w h
  have h1 := List.all_eq_true.mp hg w h
  rw [hp] at h
  obtain ⟨i, -, hi⟩ := List.mem_filterMap.mp h
  exact lw_w i hi h1
/-- the words of a contract for the method y with code b, L locals, answer r -/
abbrev ws_ (y : MethodName) (b : ByteArray) (L : Nat) (r : Option FieldType) : List Cond := Cond.code y b L r :: lw_all
theorem lw_meth {y : MethodName} {b : ByteArray} {L : Nat} {r : Option FieldType} (h : Cond.code y b L r ∈ lw_all) : GoodIn lw_all (ws_ y b L r) := by
  intro w hw
  rcases List.mem_cons.mp hw with e | e
  · rw [e]
    exact lw_self _ h
  · exact lw_self _ e
theorem lw_app {a c : List Cond} (ha : ∀ w ∈ a, w ∈ lw_all) (hc : GoodIn lw_all c) : GoodIn lw_all (a ++ c) := by
  intro w hw
  rcases List.mem_append.mp hw with e | e
  · exact lw_self w (ha w e)
  · exact hc w e
/-- what a call through an object asks: cwV n hts (lw_V ..) -/
theorem lw_V {own : String} {idx : Nat} {C : String} {y : MethodName} {b : ByteArray} {L : Nat} {r : Option FieldType} (h1 : Cond.methodLink own idx y ∈ lw_all) (h2 : Cond.instanceMethod y ∈ lw_all) (h3 : Cond.selects C y y ∈ lw_all) (h4 : Cond.initialized C ∈ lw_all) (h5 : Cond.code y b L r ∈ lw_all) : GoodIn lw_all (wsV own idx C y (ws_ y b L r)) := by
  refine lw_app ?_ (lw_meth h5)
  intro w hw
  simp only [List.mem_cons, List.not_mem_nil, or_false] at hw
  rcases hw with e | e | e | e
  · rw [e]; exact h1
  · rw [e]; exact h2
  · rw [e]; exact h3
  · rw [e]; exact h4
/-- what a static call asks: va_cwS n hts (lw_S ..) -/
theorem lw_S {own : String} {idx : Nat} {y : MethodName} {b : ByteArray} {L : Nat} {r : Option FieldType} (h1 : Cond.methodLink own idx y ∈ lw_all) (h2 : Cond.static y ∈ lw_all) (h3 : Cond.initialized y.cls ∈ lw_all) (h4 : Cond.code y b L r ∈ lw_all) : GoodIn lw_all (va_wsS own idx y (ws_ y b L r)) := by
  refine lw_app ?_ (lw_meth h4)
  intro w hw
  simp only [List.mem_cons, List.not_mem_nil, or_false] at hw
  rcases hw with e | e | e
  · rw [e]; exact h1
  · rw [e]; exact h2
  · rw [e]; exact h3
/-- the words of a contract for a method WITH HANDLERS (hh: its table) -/
abbrev wsW_ (y : MethodName) (b : ByteArray) (L : Nat) (r : Option FieldType) (hh : List (Nat × Nat × Nat × Nat)) : List Cond := Cond.codeWith y b L r hh :: lw_all
theorem lw_methW {y : MethodName} {b : ByteArray} {L : Nat} {r : Option FieldType} {hh : List (Nat × Nat × Nat × Nat)} (h : Cond.codeWith y b L r hh ∈ lw_all) : GoodIn lw_all (wsW_ y b L r hh) := by
  intro w hw
  rcases List.mem_cons.mp hw with e | e
  · rw [e]
    exact lw_self _ h
  · exact lw_self _ e
/-- any list of words by their places (lw_in), good -/
theorem lw_good {ws : List Cond} (h : ∀ w ∈ ws, w ∈ lw_all) : GoodIn lw_all ws := fun w hw => lw_self w (h w hw)
/-- what a call of a method with handlers asks: vx_cwVW n hts (lw_VW ..), vx_cwSW n hts (lw_SW ..) -/
theorem lw_VW {own : String} {idx : Nat} {C : String} {y : MethodName} {b : ByteArray} {L : Nat} {r : Option FieldType} {hh : List (Nat × Nat × Nat × Nat)} (h1 : Cond.methodLink own idx y ∈ lw_all) (h2 : Cond.instanceMethod y ∈ lw_all) (h3 : Cond.selects C y y ∈ lw_all) (h4 : Cond.initialized C ∈ lw_all) (h5 : Cond.codeWith y b L r hh ∈ lw_all) : GoodIn lw_all (wsV own idx C y (wsW_ y b L r hh)) := by
  refine lw_app ?_ (lw_methW h5)
  intro w hw
  simp only [List.mem_cons, List.not_mem_nil, or_false] at hw
  rcases hw with e | e | e | e
  · rw [e]; exact h1
  · rw [e]; exact h2
  · rw [e]; exact h3
  · rw [e]; exact h4
theorem lw_SW {own : String} {idx : Nat} {y : MethodName} {b : ByteArray} {L : Nat} {r : Option FieldType} {hh : List (Nat × Nat × Nat × Nat)} (h1 : Cond.methodLink own idx y ∈ lw_all) (h2 : Cond.static y ∈ lw_all) (h3 : Cond.initialized y.cls ∈ lw_all) (h4 : Cond.codeWith y b L r hh ∈ lw_all) : GoodIn lw_all (va_wsS own idx y (wsW_ y b L r hh)) := by
  refine lw_app ?_ (lw_methW h4)
  intro w hw
  simp only [List.mem_cons, List.not_mem_nil, or_false] at hw
  rcases hw with e | e | e
  · rw [e]; exact h1
  · rw [e]; exact h2
  · rw [e]; exact h3
/-- a word by its place in its run of the tables -/
theorem lw_at {r : List Cond} (hr : ∀ w ∈ r, w ∈ lw_tbl) {w : Cond} (i : Nat) (h : r[i]? = some w) : w ∈ lw_tbl := hr w (List.mem_of_getElem? h)
theorem lw_g {w : Cond} (h : w ∈ lw_tbl) (g : goodWord w = true) : w ∈ lw_all := List.mem_filter.mpr ⟨h, g⟩
theorem lw_ms : ∀ w ∈ k2_sels lw_privs, w ∈ lw_tbl := fun w h => show w ∈ k2_sels lw_privs ++ tables_1 from List.mem_append_left _ h
theorem lw_m1 : ∀ w ∈ tables_1_1, w ∈ lw_tbl := fun w h => show w ∈ k2_sels lw_privs ++ tables_1 from List.mem_append_right (k2_sels lw_privs) (show w ∈ tables_1 from List.mem_append_left _ h)
theorem lw_m2 : ∀ w ∈ tables_1_2, w ∈ lw_tbl := fun w h => show w ∈ k2_sels lw_privs ++ tables_1 from List.mem_append_right (k2_sels lw_privs) (show w ∈ tables_1 from List.mem_append_right _ (List.mem_append_left _ h))
theorem lw_m3 : ∀ w ∈ tables_1_3, w ∈ lw_tbl := fun w h => show w ∈ k2_sels lw_privs ++ tables_1 from List.mem_append_right (k2_sels lw_privs) (show w ∈ tables_1 from List.mem_append_right _ (List.mem_append_right _ (List.mem_append_left _ h)))
theorem lw_m4 : ∀ w ∈ tables_1_4, w ∈ lw_tbl := fun w h => show w ∈ k2_sels lw_privs ++ tables_1 from List.mem_append_right (k2_sels lw_privs) (show w ∈ tables_1 from List.mem_append_right _ (List.mem_append_right _ (List.mem_append_right _ (List.mem_append_left _ h))))
theorem lw_m5 : ∀ w ∈ tables_1_5, w ∈ lw_tbl := fun w h => show w ∈ k2_sels lw_privs ++ tables_1 from List.mem_append_right (k2_sels lw_privs) (show w ∈ tables_1 from List.mem_append_right _ (List.mem_append_right _ (List.mem_append_right _ (List.mem_append_right _ (List.mem_append_left _ h)))))
theorem lw_m6 : ∀ w ∈ tables_1_6, w ∈ lw_tbl := fun w h => show w ∈ k2_sels lw_privs ++ tables_1 from List.mem_append_right (k2_sels lw_privs) (show w ∈ tables_1 from List.mem_append_right _ (List.mem_append_right _ (List.mem_append_right _ (List.mem_append_right _ (List.mem_append_right _ (List.mem_append_left _ h))))))
theorem lw_m7 : ∀ w ∈ tables_1_7, w ∈ lw_tbl := fun w h => show w ∈ k2_sels lw_privs ++ tables_1 from List.mem_append_right (k2_sels lw_privs) (show w ∈ tables_1 from List.mem_append_right _ (List.mem_append_right _ (List.mem_append_right _ (List.mem_append_right _ (List.mem_append_right _ (List.mem_append_right _ (List.mem_append_left _ h)))))))
theorem lw_m8 : ∀ w ∈ tables_1_8, w ∈ lw_tbl := fun w h => show w ∈ k2_sels lw_privs ++ tables_1 from List.mem_append_right (k2_sels lw_privs) (show w ∈ tables_1 from List.mem_append_right _ (List.mem_append_right _ (List.mem_append_right _ (List.mem_append_right _ (List.mem_append_right _ (List.mem_append_right _ (List.mem_append_right _ h)))))))
theorem qs0 : (Cond.selects "SharedWindow" ⟨"SharedWindow", "push", "(I)V"⟩ ⟨"SharedWindow", "push", "(I)V"⟩) ∈ lw_all := lw_g (lw_at lw_ms 0 rfl) rfl
theorem qs1 : (Cond.selects "SharedWindow$Reader" ⟨"SharedWindow$Reader", "isGood", "()Z"⟩ ⟨"SharedWindow$Reader", "isGood", "()Z"⟩) ∈ lw_all := lw_g (lw_at lw_ms 1 rfl) rfl
theorem qs2 : (Cond.selects "SharedWindow$Reader" ⟨"SharedWindow$Reader", "clause", "()V"⟩ ⟨"SharedWindow$Reader", "clause", "()V"⟩) ∈ lw_all := lw_g (lw_at lw_ms 2 rfl) rfl
theorem qs3 : (Cond.selects "SharedWindow$Reader" ⟨"SharedWindow$Reader", "here", "()I"⟩ ⟨"SharedWindow$Reader", "here", "()I"⟩) ∈ lw_all := lw_g (lw_at lw_ms 3 rfl) rfl
theorem qs4 : (Cond.selects "SharedWindow$Reader" ⟨"SharedWindow$Reader", "bad", "(II)V"⟩ ⟨"SharedWindow$Reader", "bad", "(II)V"⟩) ∈ lw_all := lw_g (lw_at lw_ms 4 rfl) rfl
theorem qs5 : (Cond.selects "SharedWindow$Reader" ⟨"SharedWindow$Reader", "sum", "()LSharedWindow$Sum;"⟩ ⟨"SharedWindow$Reader", "sum", "()LSharedWindow$Sum;"⟩) ∈ lw_all := lw_g (lw_at lw_ms 5 rfl) rfl
theorem qs6 : (Cond.selects "SharedWindow$Reader" ⟨"SharedWindow$Reader", "product", "()LSharedWindow$Sum;"⟩ ⟨"SharedWindow$Reader", "product", "()LSharedWindow$Sum;"⟩) ∈ lw_all := lw_g (lw_at lw_ms 6 rfl) rfl
theorem qs7 : (Cond.selects "SharedWindow$Reader" ⟨"SharedWindow$Reader", "factor", "()LSharedWindow$Sum;"⟩ ⟨"SharedWindow$Reader", "factor", "()LSharedWindow$Sum;"⟩) ∈ lw_all := lw_g (lw_at lw_ms 7 rfl) rfl
theorem qs8 : (Cond.selects "SharedWindow$Reader" ⟨"SharedWindow$Reader", "opens", "()V"⟩ ⟨"SharedWindow$Reader", "opens", "()V"⟩) ∈ lw_all := lw_g (lw_at lw_ms 8 rfl) rfl
theorem qs9 : (Cond.selects "SharedWindow$Reader" ⟨"SharedWindow$Reader", "must", "(I)V"⟩ ⟨"SharedWindow$Reader", "must", "(I)V"⟩) ∈ lw_all := lw_g (lw_at lw_ms 9 rfl) rfl
theorem qs10 : (Cond.selects "SharedWindow$Reader" ⟨"SharedWindow$Reader", "seesDigit", "()Z"⟩ ⟨"SharedWindow$Reader", "seesDigit", "()Z"⟩) ∈ lw_all := lw_g (lw_at lw_ms 10 rfl) rfl
theorem qs11 : (Cond.selects "SharedWindow$Reader" ⟨"SharedWindow$Reader", "number", "()I"⟩ ⟨"SharedWindow$Reader", "number", "()I"⟩) ∈ lw_all := lw_g (lw_at lw_ms 11 rfl) rfl
theorem qs12 : (Cond.selects "SharedWindow$Reader" ⟨"SharedWindow$Reader", "condition", "()LSharedWindow$Condition;"⟩ ⟨"SharedWindow$Reader", "condition", "()LSharedWindow$Condition;"⟩) ∈ lw_all := lw_g (lw_at lw_ms 12 rfl) rfl
theorem qs13 : (Cond.selects "SharedWindow$Reader" ⟨"SharedWindow$Reader", "pieces", "()LSharedWindow$Condition;"⟩ ⟨"SharedWindow$Reader", "pieces", "()LSharedWindow$Condition;"⟩) ∈ lw_all := lw_g (lw_at lw_ms 13 rfl) rfl
theorem qs14 : (Cond.selects "SharedWindow$Reader" ⟨"SharedWindow$Reader", "piece", "()LSharedWindow$Condition;"⟩ ⟨"SharedWindow$Reader", "piece", "()LSharedWindow$Condition;"⟩) ∈ lw_all := lw_g (lw_at lw_ms 14 rfl) rfl
theorem qs15 : (Cond.selects "SharedWindow$Surveyor" ⟨"SharedWindow$Surveyor", "line", "()V"⟩ ⟨"SharedWindow$Surveyor", "line", "()V"⟩) ∈ lw_all := lw_g (lw_at lw_ms 15 rfl) rfl
theorem qs16 : (Cond.selects "SharedWindow$Surveyor" ⟨"SharedWindow$Surveyor", "house", "(I)V"⟩ ⟨"SharedWindow$Surveyor", "house", "(I)V"⟩) ∈ lw_all := lw_g (lw_at lw_ms 16 rfl) rfl
theorem qs17 : (Cond.selects "SharedWindow$Surveyor" ⟨"SharedWindow$Surveyor", "number", "()I"⟩ ⟨"SharedWindow$Surveyor", "number", "()I"⟩) ∈ lw_all := lw_g (lw_at lw_ms 17 rfl) rfl
theorem qs18 : (Cond.selects "SharedWindow$Surveyor" ⟨"SharedWindow$Surveyor", "thing", "(I)V"⟩ ⟨"SharedWindow$Surveyor", "thing", "(I)V"⟩) ∈ lw_all := lw_g (lw_at lw_ms 18 rfl) rfl
theorem qs19 : (Cond.selects "SharedWindow$Clerk" ⟨"SharedWindow$Clerk", "all", "()V"⟩ ⟨"SharedWindow$Clerk", "all", "()V"⟩) ∈ lw_all := lw_g (lw_at lw_ms 19 rfl) rfl
theorem qs20 : (Cond.selects "SharedWindow$Clerk" ⟨"SharedWindow$Clerk", "one", "()V"⟩ ⟨"SharedWindow$Clerk", "one", "()V"⟩) ∈ lw_all := lw_g (lw_at lw_ms 20 rfl) rfl
theorem qs21 : (Cond.selects "SharedWindow$Clerk" ⟨"SharedWindow$Clerk", "rounds", "()V"⟩ ⟨"SharedWindow$Clerk", "rounds", "()V"⟩) ∈ lw_all := lw_g (lw_at lw_ms 21 rfl) rfl
theorem qs22 : (Cond.selects "SharedWindow$Clerk" ⟨"SharedWindow$Clerk", "seesOne", "()Z"⟩ ⟨"SharedWindow$Clerk", "seesOne", "()Z"⟩) ∈ lw_all := lw_g (lw_at lw_ms 22 rfl) rfl
theorem qs23 : (Cond.selects "SharedWindow$Street" ⟨"SharedWindow$Street", "turnGoes", "(I)V"⟩ ⟨"SharedWindow$Street", "turnGoes", "(I)V"⟩) ∈ lw_all := lw_g (lw_at lw_ms 23 rfl) rfl
theorem qs24 : (Cond.selects "SharedWindow$Street" ⟨"SharedWindow$Street", "draw", "()I"⟩ ⟨"SharedWindow$Street", "draw", "()I"⟩) ∈ lw_all := lw_g (lw_at lw_ms 24 rfl) rfl
theorem qs25 : (Cond.selects "SharedWindow$Street" ⟨"SharedWindow$Street", "isCarried", "(III)V"⟩ ⟨"SharedWindow$Street", "isCarried", "(III)V"⟩) ∈ lw_all := lw_g (lw_at lw_ms 25 rfl) rfl
theorem qs26 : (Cond.selects "SharedWindow$Street" ⟨"SharedWindow$Street", "asked", "(III)LSharedWindow$Moment;"⟩ ⟨"SharedWindow$Street", "asked", "(III)LSharedWindow$Moment;"⟩) ∈ lw_all := lw_g (lw_at lw_ms 26 rfl) rfl
theorem qs27 : (Cond.selects "SharedWindow$Plan" ⟨"SharedWindow$Plan", "isSeen", "(III)Z"⟩ ⟨"SharedWindow$Plan", "isSeen", "(III)Z"⟩) ∈ lw_all := lw_g (lw_at lw_ms 27 rfl) rfl
theorem qs28 : (Cond.selects "SharedWindow" ⟨"SharedWindow", "turnsOf", "(I)I"⟩ ⟨"SharedWindow", "turnsOf", "(I)I"⟩) ∈ lw_all := lw_g (lw_at lw_ms 28 rfl) rfl
theorem qs29 : (Cond.selects "SharedWindow" ⟨"SharedWindow", "dark", "(I)I"⟩ ⟨"SharedWindow", "dark", "(I)I"⟩) ∈ lw_all := lw_g (lw_at lw_ms 29 rfl) rfl
theorem qs30 : (Cond.selects "SharedWindow" ⟨"SharedWindow", "way", "(Z)I"⟩ ⟨"SharedWindow", "way", "(Z)I"⟩) ∈ lw_all := lw_g (lw_at lw_ms 30 rfl) rfl
theorem qs31 : (Cond.selects "SharedWindow" ⟨"SharedWindow", "seenByAll", "()I"⟩ ⟨"SharedWindow", "seenByAll", "()I"⟩) ∈ lw_all := lw_g (lw_at lw_ms 31 rfl) rfl
theorem qs32 : (Cond.selects "SharedWindow" ⟨"SharedWindow", "exchanges", "(II)V"⟩ ⟨"SharedWindow", "exchanges", "(II)V"⟩) ∈ lw_all := lw_g (lw_at lw_ms 32 rfl) rfl
theorem qs33 : (Cond.selects "SharedWindow" ⟨"SharedWindow", "othersReading", "(II)I"⟩ ⟨"SharedWindow", "othersReading", "(II)I"⟩) ∈ lw_all := lw_g (lw_at lw_ms 33 rfl) rfl
theorem qs34 : (Cond.selects "SharedWindow" ⟨"SharedWindow", "clearIn", "(I)I"⟩ ⟨"SharedWindow", "clearIn", "(I)I"⟩) ∈ lw_all := lw_g (lw_at lw_ms 34 rfl) rfl
theorem qs35 : (Cond.selects "SharedWindow" ⟨"SharedWindow", "fed", "(I)I"⟩ ⟨"SharedWindow", "fed", "(I)I"⟩) ∈ lw_all := lw_g (lw_at lw_ms 35 rfl) rfl
theorem qs36 : (Cond.selects "SharedWindow" ⟨"SharedWindow", "turnIsLaid", "(II)V"⟩ ⟨"SharedWindow", "turnIsLaid", "(II)V"⟩) ∈ lw_all := lw_g (lw_at lw_ms 36 rfl) rfl
theorem qs37 : (Cond.selects "SharedWindow" ⟨"SharedWindow", "metBy", "(III)I"⟩ ⟨"SharedWindow", "metBy", "(III)I"⟩) ∈ lw_all := lw_g (lw_at lw_ms 37 rfl) rfl
theorem qs38 : (Cond.selects "SharedWindow" ⟨"SharedWindow", "betters", "(IIII)V"⟩ ⟨"SharedWindow", "betters", "(IIII)V"⟩) ∈ lw_all := lw_g (lw_at lw_ms 38 rfl) rfl
theorem qs39 : (Cond.selects "SharedWindow" ⟨"SharedWindow", "mostSwaps", "(II)I"⟩ ⟨"SharedWindow", "mostSwaps", "(II)I"⟩) ∈ lw_all := lw_g (lw_at lw_ms 39 rfl) rfl
theorem qs40 : (Cond.selects "SharedWindow" ⟨"SharedWindow", "wouldSwap", "(III)Z"⟩ ⟨"SharedWindow", "wouldSwap", "(III)Z"⟩) ∈ lw_all := lw_g (lw_at lw_ms 40 rfl) rfl
theorem qs41 : (Cond.selects "SharedWindow" ⟨"SharedWindow", "worth", "(III)I"⟩ ⟨"SharedWindow", "worth", "(III)I"⟩) ∈ lw_all := lw_g (lw_at lw_ms 41 rfl) rfl
theorem qs42 : (Cond.selects "SharedWindow" ⟨"SharedWindow", "sells", "(IIII)V"⟩ ⟨"SharedWindow", "sells", "(IIII)V"⟩) ∈ lw_all := lw_g (lw_at lw_ms 42 rfl) rfl
theorem qs43 : (Cond.selects "SharedWindow" ⟨"SharedWindow", "areClear", "(IIII)Z"⟩ ⟨"SharedWindow", "areClear", "(IIII)Z"⟩) ∈ lw_all := lw_g (lw_at lw_ms 43 rfl) rfl
theorem qs44 : (Cond.selects "SharedWindow" ⟨"SharedWindow", "hadBy", "(II)I"⟩ ⟨"SharedWindow", "hadBy", "(II)I"⟩) ∈ lw_all := lw_g (lw_at lw_ms 44 rfl) rfl
theorem qs45 : (Cond.selects "SharedWindowModel" ⟨"SharedWindowModel", "isHouse", "(I)Z"⟩ ⟨"SharedWindowModel", "isHouse", "(I)Z"⟩) ∈ lw_all := lw_g (lw_at lw_ms 45 rfl) rfl
theorem qs46 : (Cond.selects "SharedWindowModel" ⟨"SharedWindowModel", "seenBy", "(II)I"⟩ ⟨"SharedWindowModel", "seenBy", "(II)I"⟩) ∈ lw_all := lw_g (lw_at lw_ms 46 rfl) rfl
theorem qs47 : (Cond.selects "SharedWindowModel" ⟨"SharedWindowModel", "isThing", "(I)Z"⟩ ⟨"SharedWindowModel", "isThing", "(I)Z"⟩) ∈ lw_all := lw_g (lw_at lw_ms 47 rfl) rfl
theorem qs48 : (Cond.selects "SharedWindowModel" ⟨"SharedWindowModel", "isSeen", "(III)Z"⟩ ⟨"SharedWindowModel", "isSeen", "(III)Z"⟩) ∈ lw_all := lw_g (lw_at lw_ms 48 rfl) rfl
theorem qs49 : (Cond.selects "SharedWindowModel" ⟨"SharedWindowModel", "types", "(I)V"⟩ ⟨"SharedWindowModel", "types", "(I)V"⟩) ∈ lw_all := lw_g (lw_at lw_ms 49 rfl) rfl
theorem qs50 : (Cond.selects "SharedWindowModel" ⟨"SharedWindowModel", "beginsText", "(I)V"⟩ ⟨"SharedWindowModel", "beginsText", "(I)V"⟩) ∈ lw_all := lw_g (lw_at lw_ms 50 rfl) rfl
theorem qs51 : (Cond.selects "SharedWindowModel" ⟨"SharedWindowModel", "readsRule", "()Z"⟩ ⟨"SharedWindowModel", "readsRule", "()Z"⟩) ∈ lw_all := lw_g (lw_at lw_ms 51 rfl) rfl
theorem qs52 : (Cond.selects "SharedWindowModel" ⟨"SharedWindowModel", "here", "()I"⟩ ⟨"SharedWindowModel", "here", "()I"⟩) ∈ lw_all := lw_g (lw_at lw_ms 52 rfl) rfl
theorem qs53 : (Cond.selects "SharedWindowModel" ⟨"SharedWindowModel", "wrongAt", "(II)Z"⟩ ⟨"SharedWindowModel", "wrongAt", "(II)Z"⟩) ∈ lw_all := lw_g (lw_at lw_ms 53 rfl) rfl
theorem qs54 : (Cond.selects "SharedWindowModel" ⟨"SharedWindowModel", "readsSum", "()Z"⟩ ⟨"SharedWindowModel", "readsSum", "()Z"⟩) ∈ lw_all := lw_g (lw_at lw_ms 54 rfl) rfl
theorem qs55 : (Cond.selects "SharedWindowModel" ⟨"SharedWindowModel", "readsFactor", "()Z"⟩ ⟨"SharedWindowModel", "readsFactor", "()Z"⟩) ∈ lw_all := lw_g (lw_at lw_ms 55 rfl) rfl
theorem qs56 : (Cond.selects "SharedWindowModel" ⟨"SharedWindowModel", "opens", "(I)Z"⟩ ⟨"SharedWindowModel", "opens", "(I)Z"⟩) ∈ lw_all := lw_g (lw_at lw_ms 56 rfl) rfl
theorem qs57 : (Cond.selects "SharedWindowModel" ⟨"SharedWindowModel", "isDigit", "()Z"⟩ ⟨"SharedWindowModel", "isDigit", "()Z"⟩) ∈ lw_all := lw_g (lw_at lw_ms 57 rfl) rfl
theorem qs58 : (Cond.selects "SharedWindowModel" ⟨"SharedWindowModel", "readsNumber", "()Z"⟩ ⟨"SharedWindowModel", "readsNumber", "()Z"⟩) ∈ lw_all := lw_g (lw_at lw_ms 58 rfl) rfl
theorem qs59 : (Cond.selects "SharedWindowModel" ⟨"SharedWindowModel", "notes", "(II)V"⟩ ⟨"SharedWindowModel", "notes", "(II)V"⟩) ∈ lw_all := lw_g (lw_at lw_ms 59 rfl) rfl
theorem qs60 : (Cond.selects "SharedWindowModel" ⟨"SharedWindowModel", "closesSums", "(Z)V"⟩ ⟨"SharedWindowModel", "closesSums", "(Z)V"⟩) ∈ lw_all := lw_g (lw_at lw_ms 60 rfl) rfl
theorem qs61 : (Cond.selects "SharedWindowModel" ⟨"SharedWindowModel", "waitTop", "()I"⟩ ⟨"SharedWindowModel", "waitTop", "()I"⟩) ∈ lw_all := lw_g (lw_at lw_ms 61 rfl) rfl
theorem qs62 : (Cond.selects "SharedWindowModel" ⟨"SharedWindowModel", "hasOpenSum", "(I)Z"⟩ ⟨"SharedWindowModel", "hasOpenSum", "(I)Z"⟩) ∈ lw_all := lw_g (lw_at lw_ms 62 rfl) rfl
theorem qs63 : (Cond.selects "SharedWindowModel" ⟨"SharedWindowModel", "readsCondition", "()Z"⟩ ⟨"SharedWindowModel", "readsCondition", "()Z"⟩) ∈ lw_all := lw_g (lw_at lw_ms 63 rfl) rfl
theorem qs64 : (Cond.selects "SharedWindowModel" ⟨"SharedWindowModel", "readsCompared", "()Z"⟩ ⟨"SharedWindowModel", "readsCompared", "()Z"⟩) ∈ lw_all := lw_g (lw_at lw_ms 64 rfl) rfl
theorem qs65 : (Cond.selects "SharedWindowModel" ⟨"SharedWindowModel", "endsPiece", "()V"⟩ ⟨"SharedWindowModel", "endsPiece", "()V"⟩) ∈ lw_all := lw_g (lw_at lw_ms 65 rfl) rfl
theorem qs66 : (Cond.selects "SharedWindowModel" ⟨"SharedWindowModel", "lands", "(Z)V"⟩ ⟨"SharedWindowModel", "lands", "(Z)V"⟩) ∈ lw_all := lw_g (lw_at lw_ms 66 rfl) rfl
theorem qs67 : (Cond.selects "SharedWindowModel" ⟨"SharedWindowModel", "jumps", "(I)V"⟩ ⟨"SharedWindowModel", "jumps", "(I)V"⟩) ∈ lw_all := lw_g (lw_at lw_ms 67 rfl) rfl
theorem qs68 : (Cond.selects "SharedWindowModel" ⟨"SharedWindowModel", "takes", "(I)Z"⟩ ⟨"SharedWindowModel", "takes", "(I)Z"⟩) ∈ lw_all := lw_g (lw_at lw_ms 68 rfl) rfl
theorem qs69 : (Cond.selects "SharedWindowModel" ⟨"SharedWindowModel", "readsLine", "()Z"⟩ ⟨"SharedWindowModel", "readsLine", "()Z"⟩) ∈ lw_all := lw_g (lw_at lw_ms 69 rfl) rfl
theorem qs70 : (Cond.selects "SharedWindowModel" ⟨"SharedWindowModel", "readsHouse", "(I)Z"⟩ ⟨"SharedWindowModel", "readsHouse", "(I)Z"⟩) ∈ lw_all := lw_g (lw_at lw_ms 70 rfl) rfl
theorem qs71 : (Cond.selects "SharedWindowModel" ⟨"SharedWindowModel", "readsWithin", "()Z"⟩ ⟨"SharedWindowModel", "readsWithin", "()Z"⟩) ∈ lw_all := lw_g (lw_at lw_ms 71 rfl) rfl
theorem qs72 : (Cond.selects "SharedWindowModel" ⟨"SharedWindowModel", "readsThing", "(I)Z"⟩ ⟨"SharedWindowModel", "readsThing", "(I)Z"⟩) ∈ lw_all := lw_g (lw_at lw_ms 72 rfl) rfl
theorem qs73 : (Cond.selects "SharedWindowModel" ⟨"SharedWindowModel", "readsTurn", "()Z"⟩ ⟨"SharedWindowModel", "readsTurn", "()Z"⟩) ∈ lw_all := lw_g (lw_at lw_ms 73 rfl) rfl
theorem qs74 : (Cond.selects "SharedWindowModel" ⟨"SharedWindowModel", "readsTimes", "()V"⟩ ⟨"SharedWindowModel", "readsTimes", "()V"⟩) ∈ lw_all := lw_g (lw_at lw_ms 74 rfl) rfl
theorem qs75 : (Cond.selects "SharedWindowModel" ⟨"SharedWindowModel", "repeats", "(III)Z"⟩ ⟨"SharedWindowModel", "repeats", "(III)Z"⟩) ∈ lw_all := lw_g (lw_at lw_ms 75 rfl) rfl
theorem qs76 : (Cond.selects "SharedWindowModel" ⟨"SharedWindowModel", "areTold", "()Z"⟩ ⟨"SharedWindowModel", "areTold", "()Z"⟩) ∈ lw_all := lw_g (lw_at lw_ms 76 rfl) rfl
theorem qs77 : (Cond.selects "SharedWindowModel" ⟨"SharedWindowModel", "daysGo", "(I)V"⟩ ⟨"SharedWindowModel", "daysGo", "(I)V"⟩) ∈ lw_all := lw_g (lw_at lw_ms 77 rfl) rfl
theorem qs78 : (Cond.selects "SharedWindowModel" ⟨"SharedWindowModel", "dayGoes", "()V"⟩ ⟨"SharedWindowModel", "dayGoes", "()V"⟩) ∈ lw_all := lw_g (lw_at lw_ms 78 rfl) rfl
theorem qs79 : (Cond.selects "SharedWindowModel" ⟨"SharedWindowModel", "turnGoes", "(I)V"⟩ ⟨"SharedWindowModel", "turnGoes", "(I)V"⟩) ∈ lw_all := lw_g (lw_at lw_ms 79 rfl) rfl
theorem qs80 : (Cond.selects "SharedWindowModel" ⟨"SharedWindowModel", "isCarried", "(III)V"⟩ ⟨"SharedWindowModel", "isCarried", "(III)V"⟩) ∈ lw_all := lw_g (lw_at lw_ms 80 rfl) rfl
theorem qs81 : (Cond.selects "SharedWindowModel" ⟨"SharedWindowModel", "feels", "(III)V"⟩ ⟨"SharedWindowModel", "feels", "(III)V"⟩) ∈ lw_all := lw_g (lw_at lw_ms 81 rfl) rfl
theorem qs82 : (Cond.selects "SharedWindowModel" ⟨"SharedWindowModel", "holdsAny", "(I)Z"⟩ ⟨"SharedWindowModel", "holdsAny", "(I)Z"⟩) ∈ lw_all := lw_g (lw_at lw_ms 82 rfl) rfl
theorem qs83 : (Cond.selects "SharedWindowModel" ⟨"SharedWindowModel", "reckonsTo", "(II)I"⟩ ⟨"SharedWindowModel", "reckonsTo", "(II)I"⟩) ∈ lw_all := lw_g (lw_at lw_ms 83 rfl) rfl
theorem qs84 : (Cond.selects "SharedWindowModel" ⟨"SharedWindowModel", "byLaw", "(III)I"⟩ ⟨"SharedWindowModel", "byLaw", "(III)I"⟩) ∈ lw_all := lw_g (lw_at lw_ms 84 rfl) rfl
theorem qs85 : (Cond.selects "SharedWindowModel" ⟨"SharedWindowModel", "joyOfAll", "()I"⟩ ⟨"SharedWindowModel", "joyOfAll", "()I"⟩) ∈ lw_all := lw_g (lw_at lw_ms 85 rfl) rfl
theorem qs86 : (Cond.selects "SharedWindowModel" ⟨"SharedWindowModel", "turnsOf", "(I)I"⟩ ⟨"SharedWindowModel", "turnsOf", "(I)I"⟩) ∈ lw_all := lw_g (lw_at lw_ms 86 rfl) rfl
theorem qs87 : (Cond.selects "SharedWindowModel" ⟨"SharedWindowModel", "darkOf", "(I)I"⟩ ⟨"SharedWindowModel", "darkOf", "(I)I"⟩) ∈ lw_all := lw_g (lw_at lw_ms 87 rfl) rfl
theorem qs88 : (Cond.selects "SharedWindowModel" ⟨"SharedWindowModel", "everSeenBy", "(I)I"⟩ ⟨"SharedWindowModel", "everSeenBy", "(I)I"⟩) ∈ lw_all := lw_g (lw_at lw_ms 88 rfl) rfl
theorem qs89 : (Cond.selects "SharedWindowModel" ⟨"SharedWindowModel", "wayOf", "(Z)I"⟩ ⟨"SharedWindowModel", "wayOf", "(Z)I"⟩) ∈ lw_all := lw_g (lw_at lw_ms 89 rfl) rfl
theorem qs90 : (Cond.selects "SharedWindowModel" ⟨"SharedWindowModel", "seenByRota", "()I"⟩ ⟨"SharedWindowModel", "seenByRota", "()I"⟩) ∈ lw_all := lw_g (lw_at lw_ms 90 rfl) rfl
theorem qs91 : (Cond.selects "SharedWindowModel" ⟨"SharedWindowModel", "lightOf", "(I)I"⟩ ⟨"SharedWindowModel", "lightOf", "(I)I"⟩) ∈ lw_all := lw_g (lw_at lw_ms 91 rfl) rfl
theorem qs92 : (Cond.selects "SharedWindowModel" ⟨"SharedWindowModel", "changesTurns", "(II)V"⟩ ⟨"SharedWindowModel", "changesTurns", "(II)V"⟩) ∈ lw_all := lw_g (lw_at lw_ms 92 rfl) rfl
theorem qs93 : (Cond.selects "SharedWindowModel" ⟨"SharedWindowModel", "readersOf", "(II)I"⟩ ⟨"SharedWindowModel", "readersOf", "(II)I"⟩) ∈ lw_all := lw_g (lw_at lw_ms 93 rfl) rfl
theorem qs94 : (Cond.selects "SharedWindowModel" ⟨"SharedWindowModel", "othersWhoRead", "(II)I"⟩ ⟨"SharedWindowModel", "othersWhoRead", "(II)I"⟩) ∈ lw_all := lw_g (lw_at lw_ms 94 rfl) rfl
theorem qs95 : (Cond.selects "SharedWindowModel" ⟨"SharedWindowModel", "twosAt", "(I)I"⟩ ⟨"SharedWindowModel", "twosAt", "(I)I"⟩) ∈ lw_all := lw_g (lw_at lw_ms 95 rfl) rfl
theorem qs96 : (Cond.selects "SharedWindowModel" ⟨"SharedWindowModel", "octet", "(I)I"⟩ ⟨"SharedWindowModel", "octet", "(I)I"⟩) ∈ lw_all := lw_g (lw_at lw_ms 96 rfl) rfl
theorem qs97 : (Cond.selects "SharedWindowModel" ⟨"SharedWindowModel", "leastOfAll", "(I)I"⟩ ⟨"SharedWindowModel", "leastOfAll", "(I)I"⟩) ∈ lw_all := lw_g (lw_at lw_ms 97 rfl) rfl
theorem qs98 : (Cond.selects "SharedWindowModel" ⟨"SharedWindowModel", "choosesHouse", "(III)V"⟩ ⟨"SharedWindowModel", "choosesHouse", "(III)V"⟩) ∈ lw_all := lw_g (lw_at lw_ms 98 rfl) rfl
theorem qs99 : (Cond.selects "SharedWindowModel" ⟨"SharedWindowModel", "metBy", "(III)I"⟩ ⟨"SharedWindowModel", "metBy", "(III)I"⟩) ∈ lw_all := lw_g (lw_at lw_ms 99 rfl) rfl
theorem qs100 : (Cond.selects "SharedWindowModel" ⟨"SharedWindowModel", "bestSet", "()I"⟩ ⟨"SharedWindowModel", "bestSet", "()I"⟩) ∈ lw_all := lw_g (lw_at lw_ms 100 rfl) rfl
theorem qs101 : (Cond.selects "SharedWindowModel" ⟨"SharedWindowModel", "fits", "(II)Z"⟩ ⟨"SharedWindowModel", "fits", "(II)Z"⟩) ∈ lw_all := lw_g (lw_at lw_ms 101 rfl) rfl
theorem qs102 : (Cond.selects "SharedWindowModel" ⟨"SharedWindowModel", "sumFrom", "(II)I"⟩ ⟨"SharedWindowModel", "sumFrom", "(II)I"⟩) ∈ lw_all := lw_g (lw_at lw_ms 102 rfl) rfl
theorem qs103 : (Cond.selects "SharedWindowModel" ⟨"SharedWindowModel", "mostAtOnce", "(I)I"⟩ ⟨"SharedWindowModel", "mostAtOnce", "(I)I"⟩) ∈ lw_all := lw_g (lw_at lw_ms 103 rfl) rfl
theorem qs104 : (Cond.selects "SharedWindowModel" ⟨"SharedWindowModel", "bothWould", "(III)Z"⟩ ⟨"SharedWindowModel", "bothWould", "(III)Z"⟩) ∈ lw_all := lw_g (lw_at lw_ms 104 rfl) rfl
theorem qs105 : (Cond.selects "SharedWindowModel" ⟨"SharedWindowModel", "worth", "(III)I"⟩ ⟨"SharedWindowModel", "worth", "(III)I"⟩) ∈ lw_all := lw_g (lw_at lw_ms 105 rfl) rfl
theorem qs106 : (Cond.selects "SharedWindowModel" ⟨"SharedWindowModel", "laysSale", "(I)V"⟩ ⟨"SharedWindowModel", "laysSale", "(I)V"⟩) ∈ lw_all := lw_g (lw_at lw_ms 106 rfl) rfl
theorem qs107 : (Cond.selects "SharedWindowModel" ⟨"SharedWindowModel", "tallFrom", "(IIII)I"⟩ ⟨"SharedWindowModel", "tallFrom", "(IIII)I"⟩) ∈ lw_all := lw_g (lw_at lw_ms 107 rfl) rfl
theorem qs108 : (Cond.selects "SharedWindowModel" ⟨"SharedWindowModel", "hasBy", "(II)I"⟩ ⟨"SharedWindowModel", "hasBy", "(II)I"⟩) ∈ lw_all := lw_g (lw_at lw_ms 108 rfl) rfl
-- ===== end of PART A; then your names; then what follows =====
