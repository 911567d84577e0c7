-- ===== PART A: goes FIRST, ahead of the names: the tables' words, and 'selects' of the private methods out of them =====
/-- a private method of a class that the tables say can be made, by its rows of tables_1 -/
def lw_okq (q : MethodName × Nat) : Prop := (q.1.cls ≠ "java/lang/invoke/MethodHandle" ∧ q.1.cls ≠ "java/lang/invoke/VarHandle") ∧ Cond.instantiable q.1.cls q.2 ∈ tables_1 ∧ Cond.privateMethod q.1 ∈ tables_1 ∧ Cond.instanceMethod q.1 ∈ tables_1
set_option maxRecDepth 100000
theorem lw_t1 {w : Cond} (h : w ∈ tables_1_1) : w ∈ tables_1 := List.mem_append_left _ h
theorem lw_t2 {w : Cond} (h : w ∈ tables_1_2) : w ∈ tables_1 := List.mem_append_right _ (List.mem_append_left _ h)
theorem lw_t3 {w : Cond} (h : w ∈ tables_1_3) : w ∈ tables_1 := List.mem_append_right _ (List.mem_append_right _ (List.mem_append_left _ h))
theorem lw_t4 {w : Cond} (h : w ∈ tables_1_4) : w ∈ tables_1 := List.mem_append_right _ (List.mem_append_right _ (List.mem_append_right _ (List.mem_append_left _ h)))
theorem lw_t5 {w : Cond} (h : w ∈ tables_1_5) : w ∈ tables_1 := List.mem_append_right _ (List.mem_append_right _ (List.mem_append_right _ (List.mem_append_right _ (List.mem_append_left _ h))))
theorem lw_t6 {w : Cond} (h : w ∈ tables_1_6) : w ∈ tables_1 := List.mem_append_right _ (List.mem_append_right _ (List.mem_append_right _ (List.mem_append_right _ (List.mem_append_right _ (List.mem_append_left _ h)))))
theorem lw_t7 {w : Cond} (h : w ∈ tables_1_7) : w ∈ tables_1 := List.mem_append_right _ (List.mem_append_right _ (List.mem_append_right _ (List.mem_append_right _ (List.mem_append_right _ (List.mem_append_right _ (List.mem_append_left _ h))))))
theorem lw_t8 {w : Cond} (h : w ∈ tables_1_8) : w ∈ tables_1 := List.mem_append_right _ (List.mem_append_right _ (List.mem_append_right _ (List.mem_append_right _ (List.mem_append_right _ (List.mem_append_right _ (List.mem_append_right _ (List.mem_append_left _ h)))))))
theorem lw_t9 {w : Cond} (h : w ∈ tables_1_9) : w ∈ tables_1 := List.mem_append_right _ (List.mem_append_right _ (List.mem_append_right _ (List.mem_append_right _ (List.mem_append_right _ (List.mem_append_right _ (List.mem_append_right _ (List.mem_append_right _ (List.mem_append_left _ h))))))))
theorem lw_t10 {w : Cond} (h : w ∈ tables_1_10) : w ∈ tables_1 := List.mem_append_right _ (List.mem_append_right _ (List.mem_append_right _ (List.mem_append_right _ (List.mem_append_right _ (List.mem_append_right _ (List.mem_append_right _ (List.mem_append_right _ (List.mem_append_right _ (List.mem_append_left _ h)))))))))
theorem lw_t11 {w : Cond} (h : w ∈ tables_1_11) : w ∈ tables_1 := List.mem_append_right _ (List.mem_append_right _ (List.mem_append_right _ (List.mem_append_right _ (List.mem_append_right _ (List.mem_append_right _ (List.mem_append_right _ (List.mem_append_right _ (List.mem_append_right _ (List.mem_append_right _ h)))))))))
theorem lw_p0 : lw_okq (⟨"java/lang/Throwable", "fillInStackTrace", "(I)Ljava/lang/Throwable;"⟩, 6) := ⟨⟨by decide +kernel, by decide +kernel⟩, lw_t2 (List.mem_of_getElem? (i := 3) rfl), lw_t2 (List.mem_of_getElem? (i := 1) rfl), lw_t2 (List.mem_of_getElem? (i := 2) rfl)⟩
theorem lw_p1 : lw_okq (⟨"LinkElection", "put", "(I)V"⟩, 5) := ⟨⟨by decide +kernel, by decide +kernel⟩, lw_t1 (List.mem_of_getElem? (i := 44) rfl), lw_t3 (List.mem_of_getElem? (i := 100) rfl), lw_t3 (List.mem_of_getElem? (i := 101) rfl)⟩
theorem lw_p2 : lw_okq (⟨"LinkElection", "election", "()LLinkElection$Election;"⟩, 5) := ⟨⟨by decide +kernel, by decide +kernel⟩, lw_t1 (List.mem_of_getElem? (i := 44) rfl), lw_t3 (List.mem_of_getElem? (i := 163) rfl), lw_t3 (List.mem_of_getElem? (i := 164) rfl)⟩
theorem lw_p3 : lw_okq (⟨"LinkElection$Election", "weight", "(I)I"⟩, 8) := ⟨⟨by decide +kernel, by decide +kernel⟩, lw_t3 (List.mem_of_getElem? (i := 167) rfl), lw_t3 (List.mem_of_getElem? (i := 177) rfl), lw_t3 (List.mem_of_getElem? (i := 178) rfl)⟩
theorem lw_p4 : lw_okq (⟨"LinkElection$Election", "hold", "(I)V"⟩, 8) := ⟨⟨by decide +kernel, by decide +kernel⟩, lw_t3 (List.mem_of_getElem? (i := 167) rfl), lw_t5 (List.mem_of_getElem? (i := 92) rfl), lw_t5 (List.mem_of_getElem? (i := 93) rfl)⟩
theorem lw_p5 : lw_okq (⟨"LinkElection$Election", "choice", "(II)I"⟩, 8) := ⟨⟨by decide +kernel, by decide +kernel⟩, lw_t3 (List.mem_of_getElem? (i := 167) rfl), lw_t5 (List.mem_of_getElem? (i := 96) rfl), lw_t5 (List.mem_of_getElem? (i := 97) rfl)⟩
theorem lw_p6 : lw_okq (⟨"LinkElection$Election", "bound", "(II)I"⟩, 8) := ⟨⟨by decide +kernel, by decide +kernel⟩, lw_t3 (List.mem_of_getElem? (i := 167) rfl), lw_t5 (List.mem_of_getElem? (i := 110) rfl), lw_t5 (List.mem_of_getElem? (i := 111) rfl)⟩
theorem lw_p7 : lw_okq (⟨"LinkElection$Parser", "word", "()Ljava/lang/String;"⟩, 9) := ⟨⟨by decide +kernel, by decide +kernel⟩, lw_t5 (List.mem_of_getElem? (i := 213) rfl), lw_t6 (List.mem_of_getElem? (i := 15) rfl), lw_t6 (List.mem_of_getElem? (i := 16) rfl)⟩
theorem lw_p8 : lw_okq (⟨"LinkElection$Parser", "peek", "()I"⟩, 9) := ⟨⟨by decide +kernel, by decide +kernel⟩, lw_t5 (List.mem_of_getElem? (i := 213) rfl), lw_t6 (List.mem_of_getElem? (i := 19) rfl), lw_t6 (List.mem_of_getElem? (i := 20) rfl)⟩
theorem lw_p9 : lw_okq (⟨"LinkElection$Parser", "isLetterAt", "(I)Z"⟩, 9) := ⟨⟨by decide +kernel, by decide +kernel⟩, lw_t5 (List.mem_of_getElem? (i := 213) rfl), lw_t6 (List.mem_of_getElem? (i := 25) rfl), lw_t6 (List.mem_of_getElem? (i := 26) rfl)⟩
theorem lw_p10 : lw_okq (⟨"LinkElection$Parser", "require", "(ZII)V"⟩, 9) := ⟨⟨by decide +kernel, by decide +kernel⟩, lw_t5 (List.mem_of_getElem? (i := 213) rfl), lw_t6 (List.mem_of_getElem? (i := 55) rfl), lw_t6 (List.mem_of_getElem? (i := 56) rfl)⟩
theorem lw_p11 : lw_okq (⟨"LinkElection$Parser", "expect", "(I)V"⟩, 9) := ⟨⟨by decide +kernel, by decide +kernel⟩, lw_t5 (List.mem_of_getElem? (i := 213) rfl), lw_t6 (List.mem_of_getElem? (i := 87) rfl), lw_t6 (List.mem_of_getElem? (i := 88) rfl)⟩
theorem lw_p12 : lw_okq (⟨"LinkElection$Parser", "statement", "()V"⟩, 9) := ⟨⟨by decide +kernel, by decide +kernel⟩, lw_t5 (List.mem_of_getElem? (i := 213) rfl), lw_t6 (List.mem_of_getElem? (i := 91) rfl), lw_t6 (List.mem_of_getElem? (i := 92) rfl)⟩
theorem lw_p13 : lw_okq (⟨"LinkElection$Parser", "name", "(I)V"⟩, 9) := ⟨⟨by decide +kernel, by decide +kernel⟩, lw_t5 (List.mem_of_getElem? (i := 213) rfl), lw_t6 (List.mem_of_getElem? (i := 103) rfl), lw_t6 (List.mem_of_getElem? (i := 104) rfl)⟩
theorem lw_p14 : lw_okq (⟨"LinkElection$Parser", "toldWord", "()Ljava/lang/String;"⟩, 9) := ⟨⟨by decide +kernel, by decide +kernel⟩, lw_t5 (List.mem_of_getElem? (i := 213) rfl), lw_t6 (List.mem_of_getElem? (i := 109) rfl), lw_t6 (List.mem_of_getElem? (i := 110) rfl)⟩
theorem lw_p15 : lw_okq (⟨"LinkElection$Parser", "nameOf", "(Ljava/lang/String;)I"⟩, 9) := ⟨⟨by decide +kernel, by decide +kernel⟩, lw_t5 (List.mem_of_getElem? (i := 213) rfl), lw_t6 (List.mem_of_getElem? (i := 114) rfl), lw_t6 (List.mem_of_getElem? (i := 115) rfl)⟩
def lw_privs_1 : List (MethodName × Nat) := [(⟨"java/lang/Throwable", "fillInStackTrace", "(I)Ljava/lang/Throwable;"⟩, 6), (⟨"LinkElection", "put", "(I)V"⟩, 5), (⟨"LinkElection", "election", "()LLinkElection$Election;"⟩, 5), (⟨"LinkElection$Election", "weight", "(I)I"⟩, 8), (⟨"LinkElection$Election", "hold", "(I)V"⟩, 8), (⟨"LinkElection$Election", "choice", "(II)I"⟩, 8), (⟨"LinkElection$Election", "bound", "(II)I"⟩, 8), (⟨"LinkElection$Parser", "word", "()Ljava/lang/String;"⟩, 9), (⟨"LinkElection$Parser", "peek", "()I"⟩, 9), (⟨"LinkElection$Parser", "isLetterAt", "(I)Z"⟩, 9), (⟨"LinkElection$Parser", "require", "(ZII)V"⟩, 9), (⟨"LinkElection$Parser", "expect", "(I)V"⟩, 9), (⟨"LinkElection$Parser", "statement", "()V"⟩, 9), (⟨"LinkElection$Parser", "name", "(I)V"⟩, 9), (⟨"LinkElection$Parser", "toldWord", "()Ljava/lang/String;"⟩, 9), (⟨"LinkElection$Parser", "nameOf", "(Ljava/lang/String;)I"⟩, 9)]
theorem lw_r1 : ∀ q ∈ lw_privs_1, lw_okq q := List.forall_mem_cons.mpr ⟨lw_p0, List.forall_mem_cons.mpr ⟨lw_p1, List.forall_mem_cons.mpr ⟨lw_p2, List.forall_mem_cons.mpr ⟨lw_p3, List.forall_mem_cons.mpr ⟨lw_p4, List.forall_mem_cons.mpr ⟨lw_p5, List.forall_mem_cons.mpr ⟨lw_p6, List.forall_mem_cons.mpr ⟨lw_p7, List.forall_mem_cons.mpr ⟨lw_p8, List.forall_mem_cons.mpr ⟨lw_p9, List.forall_mem_cons.mpr ⟨lw_p10, List.forall_mem_cons.mpr ⟨lw_p11, List.forall_mem_cons.mpr ⟨lw_p12, List.forall_mem_cons.mpr ⟨lw_p13, List.forall_mem_cons.mpr ⟨lw_p14, List.forall_mem_cons.mpr ⟨lw_p15, fun _ h => absurd h List.not_mem_nil⟩⟩⟩⟩⟩⟩⟩⟩⟩⟩⟩⟩⟩⟩⟩⟩
theorem lw_p16 : lw_okq (⟨"java/util/ArrayList", "add", "(Ljava/lang/Object;[Ljava/lang/Object;I)V"⟩, 3) := ⟨⟨by decide +kernel, by decide +kernel⟩, lw_t1 (List.mem_of_getElem? (i := 76) rfl), lw_t6 (List.mem_of_getElem? (i := 130) rfl), lw_t6 (List.mem_of_getElem? (i := 131) rfl)⟩
theorem lw_p17 : lw_okq (⟨"java/util/ArrayList", "grow", "()[Ljava/lang/Object;"⟩, 3) := ⟨⟨by decide +kernel, by decide +kernel⟩, lw_t1 (List.mem_of_getElem? (i := 76) rfl), lw_t6 (List.mem_of_getElem? (i := 134) rfl), lw_t6 (List.mem_of_getElem? (i := 135) rfl)⟩
theorem lw_p18 : lw_okq (⟨"java/util/ArrayList", "grow", "(I)[Ljava/lang/Object;"⟩, 3) := ⟨⟨by decide +kernel, by decide +kernel⟩, lw_t1 (List.mem_of_getElem? (i := 76) rfl), lw_t6 (List.mem_of_getElem? (i := 138) rfl), lw_t6 (List.mem_of_getElem? (i := 139) rfl)⟩
theorem lw_p19 : lw_okq (⟨"LinkElection$Parser", "library", "(I)V"⟩, 9) := ⟨⟨by decide +kernel, by decide +kernel⟩, lw_t5 (List.mem_of_getElem? (i := 213) rfl), lw_t6 (List.mem_of_getElem? (i := 154) rfl), lw_t6 (List.mem_of_getElem? (i := 155) rfl)⟩
theorem lw_p20 : lw_okq (⟨"LinkElection$Parser", "libraryOf", "(Ljava/lang/String;)I"⟩, 9) := ⟨⟨by decide +kernel, by decide +kernel⟩, lw_t5 (List.mem_of_getElem? (i := 213) rfl), lw_t6 (List.mem_of_getElem? (i := 158) rfl), lw_t6 (List.mem_of_getElem? (i := 159) rfl)⟩
theorem lw_p21 : lw_okq (⟨"LinkElection$Parser", "number", "(II)I"⟩, 9) := ⟨⟨by decide +kernel, by decide +kernel⟩, lw_t5 (List.mem_of_getElem? (i := 213) rfl), lw_t6 (List.mem_of_getElem? (i := 163) rfl), lw_t6 (List.mem_of_getElem? (i := 164) rfl)⟩
theorem lw_p22 : lw_okq (⟨"LinkElection$Parser", "isDigit", "()Z"⟩, 9) := ⟨⟨by decide +kernel, by decide +kernel⟩, lw_t5 (List.mem_of_getElem? (i := 213) rfl), lw_t6 (List.mem_of_getElem? (i := 167) rfl), lw_t6 (List.mem_of_getElem? (i := 168) rfl)⟩
theorem lw_p23 : lw_okq (⟨"LinkElection$Parser", "accept", "(Ljava/lang/String;)Z"⟩, 9) := ⟨⟨by decide +kernel, by decide +kernel⟩, lw_t5 (List.mem_of_getElem? (i := 213) rfl), lw_t6 (List.mem_of_getElem? (i := 177) rfl), lw_t6 (List.mem_of_getElem? (i := 178) rfl)⟩
theorem lw_p24 : lw_okq (⟨"LinkElection$Parser", "offer", "()V"⟩, 9) := ⟨⟨by decide +kernel, by decide +kernel⟩, lw_t5 (List.mem_of_getElem? (i := 213) rfl), lw_t6 (List.mem_of_getElem? (i := 234) rfl), lw_t6 (List.mem_of_getElem? (i := 235) rfl)⟩
theorem lw_p25 : lw_okq (⟨"LinkElection$Parser", "known", "(I)I"⟩, 9) := ⟨⟨by decide +kernel, by decide +kernel⟩, lw_t5 (List.mem_of_getElem? (i := 213) rfl), lw_t6 (List.mem_of_getElem? (i := 238) rfl), lw_t6 (List.mem_of_getElem? (i := 239) rfl)⟩
theorem lw_p26 : lw_okq (⟨"LinkElection$Parser", "prefer", "()V"⟩, 9) := ⟨⟨by decide +kernel, by decide +kernel⟩, lw_t5 (List.mem_of_getElem? (i := 213) rfl), lw_t7 (List.mem_of_getElem? (i := 167) rfl), lw_t7 (List.mem_of_getElem? (i := 168) rfl)⟩
theorem lw_p27 : lw_okq (⟨"LinkElection$Parser", "sum", "()LLinkElection$Weight;"⟩, 9) := ⟨⟨by decide +kernel, by decide +kernel⟩, lw_t5 (List.mem_of_getElem? (i := 213) rfl), lw_t7 (List.mem_of_getElem? (i := 173) rfl), lw_t7 (List.mem_of_getElem? (i := 174) rfl)⟩
theorem lw_p28 : lw_okq (⟨"LinkElection$Parser", "term", "()LLinkElection$Weight;"⟩, 9) := ⟨⟨by decide +kernel, by decide +kernel⟩, lw_t5 (List.mem_of_getElem? (i := 213) rfl), lw_t7 (List.mem_of_getElem? (i := 177) rfl), lw_t7 (List.mem_of_getElem? (i := 178) rfl)⟩
theorem lw_p29 : lw_okq (⟨"LinkElection$Parser", "factor", "()LLinkElection$Weight;"⟩, 9) := ⟨⟨by decide +kernel, by decide +kernel⟩, lw_t5 (List.mem_of_getElem? (i := 213) rfl), lw_t7 (List.mem_of_getElem? (i := 181) rfl), lw_t7 (List.mem_of_getElem? (i := 182) rfl)⟩
theorem lw_p30 : lw_okq (⟨"LinkElection", "replace", "(LLinkElection$House;)V"⟩, 5) := ⟨⟨by decide +kernel, by decide +kernel⟩, lw_t1 (List.mem_of_getElem? (i := 44) rfl), lw_t7 (List.mem_of_getElem? (i := 199) rfl), lw_t7 (List.mem_of_getElem? (i := 200) rfl)⟩
theorem lw_p31 : lw_okq (⟨"java/util/ArrayDeque", "grow", "(I)V"⟩, 3) := ⟨⟨by decide +kernel, by decide +kernel⟩, lw_t1 (List.mem_of_getElem? (i := 52) rfl), lw_t7 (List.mem_of_getElem? (i := 218) rfl), lw_t7 (List.mem_of_getElem? (i := 219) rfl)⟩
def lw_privs_2 : List (MethodName × Nat) := [(⟨"java/util/ArrayList", "add", "(Ljava/lang/Object;[Ljava/lang/Object;I)V"⟩, 3), (⟨"java/util/ArrayList", "grow", "()[Ljava/lang/Object;"⟩, 3), (⟨"java/util/ArrayList", "grow", "(I)[Ljava/lang/Object;"⟩, 3), (⟨"LinkElection$Parser", "library", "(I)V"⟩, 9), (⟨"LinkElection$Parser", "libraryOf", "(Ljava/lang/String;)I"⟩, 9), (⟨"LinkElection$Parser", "number", "(II)I"⟩, 9), (⟨"LinkElection$Parser", "isDigit", "()Z"⟩, 9), (⟨"LinkElection$Parser", "accept", "(Ljava/lang/String;)Z"⟩, 9), (⟨"LinkElection$Parser", "offer", "()V"⟩, 9), (⟨"LinkElection$Parser", "known", "(I)I"⟩, 9), (⟨"LinkElection$Parser", "prefer", "()V"⟩, 9), (⟨"LinkElection$Parser", "sum", "()LLinkElection$Weight;"⟩, 9), (⟨"LinkElection$Parser", "term", "()LLinkElection$Weight;"⟩, 9), (⟨"LinkElection$Parser", "factor", "()LLinkElection$Weight;"⟩, 9), (⟨"LinkElection", "replace", "(LLinkElection$House;)V"⟩, 5), (⟨"java/util/ArrayDeque", "grow", "(I)V"⟩, 3)]
theorem lw_r2 : ∀ q ∈ lw_privs_2, lw_okq q := List.forall_mem_cons.mpr ⟨lw_p16, List.forall_mem_cons.mpr ⟨lw_p17, List.forall_mem_cons.mpr ⟨lw_p18, List.forall_mem_cons.mpr ⟨lw_p19, List.forall_mem_cons.mpr ⟨lw_p20, List.forall_mem_cons.mpr ⟨lw_p21, List.forall_mem_cons.mpr ⟨lw_p22, List.forall_mem_cons.mpr ⟨lw_p23, List.forall_mem_cons.mpr ⟨lw_p24, List.forall_mem_cons.mpr ⟨lw_p25, List.forall_mem_cons.mpr ⟨lw_p26, List.forall_mem_cons.mpr ⟨lw_p27, List.forall_mem_cons.mpr ⟨lw_p28, List.forall_mem_cons.mpr ⟨lw_p29, List.forall_mem_cons.mpr ⟨lw_p30, List.forall_mem_cons.mpr ⟨lw_p31, fun _ h => absurd h List.not_mem_nil⟩⟩⟩⟩⟩⟩⟩⟩⟩⟩⟩⟩⟩⟩⟩⟩
theorem lw_p32 : lw_okq (⟨"java/util/ArrayDeque", "newCapacity", "(II)I"⟩, 3) := ⟨⟨by decide +kernel, by decide +kernel⟩, lw_t1 (List.mem_of_getElem? (i := 52) rfl), lw_t7 (List.mem_of_getElem? (i := 223) rfl), lw_t7 (List.mem_of_getElem? (i := 224) rfl)⟩
theorem lw_p33 : lw_okq (⟨"LinkElection", "libraryAt", "(I)LLinkElection$Library;"⟩, 5) := ⟨⟨by decide +kernel, by decide +kernel⟩, lw_t1 (List.mem_of_getElem? (i := 44) rfl), lw_t8 (List.mem_of_getElem? (i := 32) rfl), lw_t8 (List.mem_of_getElem? (i := 33) rfl)⟩
theorem lw_p34 : lw_okq (⟨"LinkElection", "requireBoth", "(II)V"⟩, 5) := ⟨⟨by decide +kernel, by decide +kernel⟩, lw_t1 (List.mem_of_getElem? (i := 44) rfl), lw_t8 (List.mem_of_getElem? (i := 62) rfl), lw_t8 (List.mem_of_getElem? (i := 63) rfl)⟩
theorem lw_p35 : lw_okq (⟨"LinkElection", "requireName", "(I)V"⟩, 5) := ⟨⟨by decide +kernel, by decide +kernel⟩, lw_t1 (List.mem_of_getElem? (i := 44) rfl), lw_t8 (List.mem_of_getElem? (i := 66) rfl), lw_t8 (List.mem_of_getElem? (i := 67) rfl)⟩
theorem lw_p36 : lw_okq (⟨"LinkElection", "change", "()LLinkElection$House;"⟩, 5) := ⟨⟨by decide +kernel, by decide +kernel⟩, lw_t1 (List.mem_of_getElem? (i := 44) rfl), lw_t8 (List.mem_of_getElem? (i := 171) rfl), lw_t8 (List.mem_of_getElem? (i := 172) rfl)⟩
theorem lw_p37 : lw_okq (⟨"java/util/ArrayList", "fastRemove", "([Ljava/lang/Object;I)V"⟩, 3) := ⟨⟨by decide +kernel, by decide +kernel⟩, lw_t1 (List.mem_of_getElem? (i := 76) rfl), lw_t8 (List.mem_of_getElem? (i := 199) rfl), lw_t8 (List.mem_of_getElem? (i := 200) rfl)⟩
theorem lw_p38 : lw_okq (⟨"LinkElection", "offers", "(III)I"⟩, 5) := ⟨⟨by decide +kernel, by decide +kernel⟩, lw_t1 (List.mem_of_getElem? (i := 44) rfl), lw_t8 (List.mem_of_getElem? (i := 224) rfl), lw_t8 (List.mem_of_getElem? (i := 225) rfl)⟩
theorem lw_p39 : lw_okq (⟨"LinkElectionModel", "fails", "(ZI)Z"⟩, 27) := ⟨⟨by decide +kernel, by decide +kernel⟩, lw_t9 (List.mem_of_getElem? (i := 27) rfl), lw_t9 (List.mem_of_getElem? (i := 132) rfl), lw_t9 (List.mem_of_getElem? (i := 133) rfl)⟩
theorem lw_p40 : lw_okq (⟨"LinkElectionModel", "takeWord", "(Ljava/lang/String;)Z"⟩, 27) := ⟨⟨by decide +kernel, by decide +kernel⟩, lw_t9 (List.mem_of_getElem? (i := 27) rfl), lw_t9 (List.mem_of_getElem? (i := 137) rfl), lw_t9 (List.mem_of_getElem? (i := 138) rfl)⟩
theorem lw_p41 : lw_okq (⟨"LinkElectionModel", "isGood", "()Z"⟩, 27) := ⟨⟨by decide +kernel, by decide +kernel⟩, lw_t9 (List.mem_of_getElem? (i := 27) rfl), lw_t9 (List.mem_of_getElem? (i := 141) rfl), lw_t9 (List.mem_of_getElem? (i := 142) rfl)⟩
theorem lw_p42 : lw_okq (⟨"LinkElectionModel", "next", "()I"⟩, 27) := ⟨⟨by decide +kernel, by decide +kernel⟩, lw_t9 (List.mem_of_getElem? (i := 27) rfl), lw_t9 (List.mem_of_getElem? (i := 145) rfl), lw_t9 (List.mem_of_getElem? (i := 146) rfl)⟩
theorem lw_p43 : lw_okq (⟨"LinkElectionModel", "byteAt", "(I)I"⟩, 27) := ⟨⟨by decide +kernel, by decide +kernel⟩, lw_t9 (List.mem_of_getElem? (i := 27) rfl), lw_t9 (List.mem_of_getElem? (i := 149) rfl), lw_t9 (List.mem_of_getElem? (i := 150) rfl)⟩
theorem lw_p44 : lw_okq (⟨"LinkElectionModel", "report", "(II)V"⟩, 27) := ⟨⟨by decide +kernel, by decide +kernel⟩, lw_t9 (List.mem_of_getElem? (i := 27) rfl), lw_t9 (List.mem_of_getElem? (i := 165) rfl), lw_t9 (List.mem_of_getElem? (i := 166) rfl)⟩
theorem lw_p45 : lw_okq (⟨"LinkElectionModel", "expect", "(I)V"⟩, 27) := ⟨⟨by decide +kernel, by decide +kernel⟩, lw_t9 (List.mem_of_getElem? (i := 27) rfl), lw_t9 (List.mem_of_getElem? (i := 169) rfl), lw_t9 (List.mem_of_getElem? (i := 170) rfl)⟩
theorem lw_p46 : lw_okq (⟨"LinkElectionModel", "statement", "()V"⟩, 27) := ⟨⟨by decide +kernel, by decide +kernel⟩, lw_t9 (List.mem_of_getElem? (i := 27) rfl), lw_t9 (List.mem_of_getElem? (i := 173) rfl), lw_t9 (List.mem_of_getElem? (i := 174) rfl)⟩
theorem lw_p47 : lw_okq (⟨"LinkElectionModel", "readName", "(I)V"⟩, 27) := ⟨⟨by decide +kernel, by decide +kernel⟩, lw_t9 (List.mem_of_getElem? (i := 27) rfl), lw_t9 (List.mem_of_getElem? (i := 178) rfl), lw_t9 (List.mem_of_getElem? (i := 179) rfl)⟩
def lw_privs_3 : List (MethodName × Nat) := [(⟨"java/util/ArrayDeque", "newCapacity", "(II)I"⟩, 3), (⟨"LinkElection", "libraryAt", "(I)LLinkElection$Library;"⟩, 5), (⟨"LinkElection", "requireBoth", "(II)V"⟩, 5), (⟨"LinkElection", "requireName", "(I)V"⟩, 5), (⟨"LinkElection", "change", "()LLinkElection$House;"⟩, 5), (⟨"java/util/ArrayList", "fastRemove", "([Ljava/lang/Object;I)V"⟩, 3), (⟨"LinkElection", "offers", "(III)I"⟩, 5), (⟨"LinkElectionModel", "fails", "(ZI)Z"⟩, 27), (⟨"LinkElectionModel", "takeWord", "(Ljava/lang/String;)Z"⟩, 27), (⟨"LinkElectionModel", "isGood", "()Z"⟩, 27), (⟨"LinkElectionModel", "next", "()I"⟩, 27), (⟨"LinkElectionModel", "byteAt", "(I)I"⟩, 27), (⟨"LinkElectionModel", "report", "(II)V"⟩, 27), (⟨"LinkElectionModel", "expect", "(I)V"⟩, 27), (⟨"LinkElectionModel", "statement", "()V"⟩, 27), (⟨"LinkElectionModel", "readName", "(I)V"⟩, 27)]
theorem lw_r3 : ∀ q ∈ lw_privs_3, lw_okq q := List.forall_mem_cons.mpr ⟨lw_p32, List.forall_mem_cons.mpr ⟨lw_p33, List.forall_mem_cons.mpr ⟨lw_p34, List.forall_mem_cons.mpr ⟨lw_p35, List.forall_mem_cons.mpr ⟨lw_p36, List.forall_mem_cons.mpr ⟨lw_p37, List.forall_mem_cons.mpr ⟨lw_p38, List.forall_mem_cons.mpr ⟨lw_p39, List.forall_mem_cons.mpr ⟨lw_p40, List.forall_mem_cons.mpr ⟨lw_p41, List.forall_mem_cons.mpr ⟨lw_p42, List.forall_mem_cons.mpr ⟨lw_p43, List.forall_mem_cons.mpr ⟨lw_p44, List.forall_mem_cons.mpr ⟨lw_p45, List.forall_mem_cons.mpr ⟨lw_p46, List.forall_mem_cons.mpr ⟨lw_p47, fun _ h => absurd h List.not_mem_nil⟩⟩⟩⟩⟩⟩⟩⟩⟩⟩⟩⟩⟩⟩⟩⟩
theorem lw_p48 : lw_okq (⟨"LinkElectionModel", "readWord", "()J"⟩, 27) := ⟨⟨by decide +kernel, by decide +kernel⟩, lw_t9 (List.mem_of_getElem? (i := 27) rfl), lw_t9 (List.mem_of_getElem? (i := 182) rfl), lw_t9 (List.mem_of_getElem? (i := 183) rfl)⟩
theorem lw_p49 : lw_okq (⟨"LinkElectionModel", "isFresh", "([JIJ)Z"⟩, 27) := ⟨⟨by decide +kernel, by decide +kernel⟩, lw_t9 (List.mem_of_getElem? (i := 27) rfl), lw_t9 (List.mem_of_getElem? (i := 188) rfl), lw_t9 (List.mem_of_getElem? (i := 189) rfl)⟩
theorem lw_p50 : lw_okq (⟨"LinkElectionModel", "readLibrary", "(I)V"⟩, 27) := ⟨⟨by decide +kernel, by decide +kernel⟩, lw_t9 (List.mem_of_getElem? (i := 27) rfl), lw_t9 (List.mem_of_getElem? (i := 196) rfl), lw_t9 (List.mem_of_getElem? (i := 197) rfl)⟩
theorem lw_p51 : lw_okq (⟨"LinkElectionModel", "number", "(II)I"⟩, 27) := ⟨⟨by decide +kernel, by decide +kernel⟩, lw_t9 (List.mem_of_getElem? (i := 27) rfl), lw_t9 (List.mem_of_getElem? (i := 203) rfl), lw_t9 (List.mem_of_getElem? (i := 204) rfl)⟩
theorem lw_p52 : lw_okq (⟨"LinkElectionModel", "readOffer", "()V"⟩, 27) := ⟨⟨by decide +kernel, by decide +kernel⟩, lw_t9 (List.mem_of_getElem? (i := 27) rfl), lw_t9 (List.mem_of_getElem? (i := 216) rfl), lw_t9 (List.mem_of_getElem? (i := 217) rfl)⟩
theorem lw_p53 : lw_okq (⟨"LinkElectionModel", "readKnown", "([JI)I"⟩, 27) := ⟨⟨by decide +kernel, by decide +kernel⟩, lw_t9 (List.mem_of_getElem? (i := 27) rfl), lw_t9 (List.mem_of_getElem? (i := 220) rfl), lw_t9 (List.mem_of_getElem? (i := 221) rfl)⟩
theorem lw_p54 : lw_okq (⟨"LinkElectionModel", "readPreference", "()V"⟩, 27) := ⟨⟨by decide +kernel, by decide +kernel⟩, lw_t9 (List.mem_of_getElem? (i := 27) rfl), lw_t9 (List.mem_of_getElem? (i := 226) rfl), lw_t9 (List.mem_of_getElem? (i := 227) rfl)⟩
theorem lw_p55 : lw_okq (⟨"LinkElectionModel", "prefers", "([III)Z"⟩, 27) := ⟨⟨by decide +kernel, by decide +kernel⟩, lw_t9 (List.mem_of_getElem? (i := 27) rfl), lw_t9 (List.mem_of_getElem? (i := 230) rfl), lw_t9 (List.mem_of_getElem? (i := 231) rfl)⟩
theorem lw_p56 : lw_okq (⟨"LinkElectionModel", "once", "(II)V"⟩, 27) := ⟨⟨by decide +kernel, by decide +kernel⟩, lw_t9 (List.mem_of_getElem? (i := 27) rfl), lw_t9 (List.mem_of_getElem? (i := 235) rfl), lw_t9 (List.mem_of_getElem? (i := 236) rfl)⟩
theorem lw_p57 : lw_okq (⟨"LinkElectionModel", "sum", "()V"⟩, 27) := ⟨⟨by decide +kernel, by decide +kernel⟩, lw_t9 (List.mem_of_getElem? (i := 27) rfl), lw_t10 (List.mem_of_getElem? (i := 0) rfl), lw_t10 (List.mem_of_getElem? (i := 1) rfl)⟩
theorem lw_p58 : lw_okq (⟨"LinkElectionModel", "term", "()V"⟩, 27) := ⟨⟨by decide +kernel, by decide +kernel⟩, lw_t9 (List.mem_of_getElem? (i := 27) rfl), lw_t10 (List.mem_of_getElem? (i := 4) rfl), lw_t10 (List.mem_of_getElem? (i := 5) rfl)⟩
theorem lw_p59 : lw_okq (⟨"LinkElectionModel", "factor", "()V"⟩, 27) := ⟨⟨by decide +kernel, by decide +kernel⟩, lw_t9 (List.mem_of_getElem? (i := 27) rfl), lw_t10 (List.mem_of_getElem? (i := 8) rfl), lw_t10 (List.mem_of_getElem? (i := 9) rfl)⟩
theorem lw_p60 : lw_okq (⟨"LinkElectionModel", "emit", "(I)V"⟩, 27) := ⟨⟨by decide +kernel, by decide +kernel⟩, lw_t9 (List.mem_of_getElem? (i := 27) rfl), lw_t10 (List.mem_of_getElem? (i := 16) rfl), lw_t10 (List.mem_of_getElem? (i := 17) rfl)⟩
theorem lw_p61 : lw_okq (⟨"LinkElectionModel", "remember", "()V"⟩, 27) := ⟨⟨by decide +kernel, by decide +kernel⟩, lw_t9 (List.mem_of_getElem? (i := 27) rfl), lw_t10 (List.mem_of_getElem? (i := 20) rfl), lw_t10 (List.mem_of_getElem? (i := 21) rfl)⟩
theorem lw_p62 : lw_okq (⟨"LinkElectionModel", "noLibrary", "(I)Z"⟩, 27) := ⟨⟨by decide +kernel, by decide +kernel⟩, lw_t9 (List.mem_of_getElem? (i := 27) rfl), lw_t10 (List.mem_of_getElem? (i := 47) rfl), lw_t10 (List.mem_of_getElem? (i := 48) rfl)⟩
theorem lw_p63 : lw_okq (⟨"LinkElectionModel", "told", "(II)I"⟩, 27) := ⟨⟨by decide +kernel, by decide +kernel⟩, lw_t9 (List.mem_of_getElem? (i := 27) rfl), lw_t10 (List.mem_of_getElem? (i := 51) rfl), lw_t10 (List.mem_of_getElem? (i := 52) rfl)⟩
def lw_privs_4 : List (MethodName × Nat) := [(⟨"LinkElectionModel", "readWord", "()J"⟩, 27), (⟨"LinkElectionModel", "isFresh", "([JIJ)Z"⟩, 27), (⟨"LinkElectionModel", "readLibrary", "(I)V"⟩, 27), (⟨"LinkElectionModel", "number", "(II)I"⟩, 27), (⟨"LinkElectionModel", "readOffer", "()V"⟩, 27), (⟨"LinkElectionModel", "readKnown", "([JI)I"⟩, 27), (⟨"LinkElectionModel", "readPreference", "()V"⟩, 27), (⟨"LinkElectionModel", "prefers", "([III)Z"⟩, 27), (⟨"LinkElectionModel", "once", "(II)V"⟩, 27), (⟨"LinkElectionModel", "sum", "()V"⟩, 27), (⟨"LinkElectionModel", "term", "()V"⟩, 27), (⟨"LinkElectionModel", "factor", "()V"⟩, 27), (⟨"LinkElectionModel", "emit", "(I)V"⟩, 27), (⟨"LinkElectionModel", "remember", "()V"⟩, 27), (⟨"LinkElectionModel", "noLibrary", "(I)Z"⟩, 27), (⟨"LinkElectionModel", "told", "(II)I"⟩, 27)]
theorem lw_r4 : ∀ q ∈ lw_privs_4, lw_okq q := List.forall_mem_cons.mpr ⟨lw_p48, List.forall_mem_cons.mpr ⟨lw_p49, List.forall_mem_cons.mpr ⟨lw_p50, List.forall_mem_cons.mpr ⟨lw_p51, List.forall_mem_cons.mpr ⟨lw_p52, List.forall_mem_cons.mpr ⟨lw_p53, List.forall_mem_cons.mpr ⟨lw_p54, List.forall_mem_cons.mpr ⟨lw_p55, List.forall_mem_cons.mpr ⟨lw_p56, List.forall_mem_cons.mpr ⟨lw_p57, List.forall_mem_cons.mpr ⟨lw_p58, List.forall_mem_cons.mpr ⟨lw_p59, List.forall_mem_cons.mpr ⟨lw_p60, List.forall_mem_cons.mpr ⟨lw_p61, List.forall_mem_cons.mpr ⟨lw_p62, List.forall_mem_cons.mpr ⟨lw_p63, fun _ h => absurd h List.not_mem_nil⟩⟩⟩⟩⟩⟩⟩⟩⟩⟩⟩⟩⟩⟩⟩⟩
theorem lw_p64 : lw_okq (⟨"LinkElectionModel", "rankOf", "(I)I"⟩, 27) := ⟨⟨by decide +kernel, by decide +kernel⟩, lw_t9 (List.mem_of_getElem? (i := 27) rfl), lw_t10 (List.mem_of_getElem? (i := 55) rfl), lw_t10 (List.mem_of_getElem? (i := 56) rfl)⟩
theorem lw_p65 : lw_okq (⟨"LinkElectionModel", "isLoaded", "(I)Z"⟩, 27) := ⟨⟨by decide +kernel, by decide +kernel⟩, lw_t9 (List.mem_of_getElem? (i := 27) rfl), lw_t10 (List.mem_of_getElem? (i := 59) rfl), lw_t10 (List.mem_of_getElem? (i := 60) rfl)⟩
theorem lw_p66 : lw_okq (⟨"LinkElectionModel", "offersOf", "(I)I"⟩, 27) := ⟨⟨by decide +kernel, by decide +kernel⟩, lw_t9 (List.mem_of_getElem? (i := 27) rfl), lw_t10 (List.mem_of_getElem? (i := 63) rfl), lw_t10 (List.mem_of_getElem? (i := 64) rfl)⟩
theorem lw_p67 : lw_okq (⟨"LinkElectionModel", "weightOf", "(I)I"⟩, 27) := ⟨⟨by decide +kernel, by decide +kernel⟩, lw_t9 (List.mem_of_getElem? (i := 27) rfl), lw_t10 (List.mem_of_getElem? (i := 67) rfl), lw_t10 (List.mem_of_getElem? (i := 68) rfl)⟩
theorem lw_p68 : lw_okq (⟨"LinkElectionModel", "friendsOf", "(I)I"⟩, 27) := ⟨⟨by decide +kernel, by decide +kernel⟩, lw_t9 (List.mem_of_getElem? (i := 27) rfl), lw_t10 (List.mem_of_getElem? (i := 71) rfl), lw_t10 (List.mem_of_getElem? (i := 72) rfl)⟩
theorem lw_p69 : lw_okq (⟨"LinkElectionModel", "noName", "(I)Z"⟩, 27) := ⟨⟨by decide +kernel, by decide +kernel⟩, lw_t9 (List.mem_of_getElem? (i := 27) rfl), lw_t10 (List.mem_of_getElem? (i := 88) rfl), lw_t10 (List.mem_of_getElem? (i := 89) rfl)⟩
theorem lw_p70 : lw_okq (⟨"LinkElectionModel", "isCandidate", "(II)Z"⟩, 27) := ⟨⟨by decide +kernel, by decide +kernel⟩, lw_t9 (List.mem_of_getElem? (i := 27) rfl), lw_t10 (List.mem_of_getElem? (i := 96) rfl), lw_t10 (List.mem_of_getElem? (i := 97) rfl)⟩
theorem lw_p71 : lw_okq (⟨"LinkElectionModel", "voteOf", "(II)I"⟩, 27) := ⟨⟨by decide +kernel, by decide +kernel⟩, lw_t9 (List.mem_of_getElem? (i := 27) rfl), lw_t10 (List.mem_of_getElem? (i := 104) rfl), lw_t10 (List.mem_of_getElem? (i := 105) rfl)⟩
theorem lw_p72 : lw_okq (⟨"LinkElectionModel", "isMissing", "(II)Z"⟩, 27) := ⟨⟨by decide +kernel, by decide +kernel⟩, lw_t9 (List.mem_of_getElem? (i := 27) rfl), lw_t10 (List.mem_of_getElem? (i := 112) rfl), lw_t10 (List.mem_of_getElem? (i := 113) rfl)⟩
theorem lw_p73 : lw_okq (⟨"LinkElectionModel", "layAll", "()V"⟩, 27) := ⟨⟨by decide +kernel, by decide +kernel⟩, lw_t9 (List.mem_of_getElem? (i := 27) rfl), lw_t10 (List.mem_of_getElem? (i := 116) rfl), lw_t10 (List.mem_of_getElem? (i := 117) rfl)⟩
theorem lw_p74 : lw_okq (⟨"LinkElectionModel", "layName", "(I)V"⟩, 27) := ⟨⟨by decide +kernel, by decide +kernel⟩, lw_t9 (List.mem_of_getElem? (i := 27) rfl), lw_t10 (List.mem_of_getElem? (i := 120) rfl), lw_t10 (List.mem_of_getElem? (i := 121) rfl)⟩
theorem lw_p75 : lw_okq (⟨"LinkElectionModel", "follow", "(II)I"⟩, 27) := ⟨⟨by decide +kernel, by decide +kernel⟩, lw_t9 (List.mem_of_getElem? (i := 27) rfl), lw_t10 (List.mem_of_getElem? (i := 144) rfl), lw_t10 (List.mem_of_getElem? (i := 145) rfl)⟩
theorem lw_p76 : lw_okq (⟨"LinkElectionModel", "keepBindings", "()V"⟩, 27) := ⟨⟨by decide +kernel, by decide +kernel⟩, lw_t9 (List.mem_of_getElem? (i := 27) rfl), lw_t10 (List.mem_of_getElem? (i := 160) rfl), lw_t10 (List.mem_of_getElem? (i := 161) rfl)⟩
theorem lw_p77 : lw_okq (⟨"LinkElectionModel", "changedBut", "(I)I"⟩, 27) := ⟨⟨by decide +kernel, by decide +kernel⟩, lw_t9 (List.mem_of_getElem? (i := 27) rfl), lw_t10 (List.mem_of_getElem? (i := 164) rfl), lw_t10 (List.mem_of_getElem? (i := 165) rfl)⟩
theorem lw_p78 : lw_okq (⟨"LinkElectionModel", "put", "(III)I"⟩, 27) := ⟨⟨by decide +kernel, by decide +kernel⟩, lw_t9 (List.mem_of_getElem? (i := 27) rfl), lw_t10 (List.mem_of_getElem? (i := 176) rfl), lw_t10 (List.mem_of_getElem? (i := 177) rfl)⟩
def lw_privs_5 : List (MethodName × Nat) := [(⟨"LinkElectionModel", "rankOf", "(I)I"⟩, 27), (⟨"LinkElectionModel", "isLoaded", "(I)Z"⟩, 27), (⟨"LinkElectionModel", "offersOf", "(I)I"⟩, 27), (⟨"LinkElectionModel", "weightOf", "(I)I"⟩, 27), (⟨"LinkElectionModel", "friendsOf", "(I)I"⟩, 27), (⟨"LinkElectionModel", "noName", "(I)Z"⟩, 27), (⟨"LinkElectionModel", "isCandidate", "(II)Z"⟩, 27), (⟨"LinkElectionModel", "voteOf", "(II)I"⟩, 27), (⟨"LinkElectionModel", "isMissing", "(II)Z"⟩, 27), (⟨"LinkElectionModel", "layAll", "()V"⟩, 27), (⟨"LinkElectionModel", "layName", "(I)V"⟩, 27), (⟨"LinkElectionModel", "follow", "(II)I"⟩, 27), (⟨"LinkElectionModel", "keepBindings", "()V"⟩, 27), (⟨"LinkElectionModel", "changedBut", "(I)I"⟩, 27), (⟨"LinkElectionModel", "put", "(III)I"⟩, 27)]
theorem lw_r5 : ∀ q ∈ lw_privs_5, lw_okq q := List.forall_mem_cons.mpr ⟨lw_p64, List.forall_mem_cons.mpr ⟨lw_p65, List.forall_mem_cons.mpr ⟨lw_p66, List.forall_mem_cons.mpr ⟨lw_p67, List.forall_mem_cons.mpr ⟨lw_p68, List.forall_mem_cons.mpr ⟨lw_p69, List.forall_mem_cons.mpr ⟨lw_p70, List.forall_mem_cons.mpr ⟨lw_p71, List.forall_mem_cons.mpr ⟨lw_p72, List.forall_mem_cons.mpr ⟨lw_p73, List.forall_mem_cons.mpr ⟨lw_p74, List.forall_mem_cons.mpr ⟨lw_p75, List.forall_mem_cons.mpr ⟨lw_p76, List.forall_mem_cons.mpr ⟨lw_p77, List.forall_mem_cons.mpr ⟨lw_p78, fun _ h => absurd h List.not_mem_nil⟩⟩⟩⟩⟩⟩⟩⟩⟩⟩⟩⟩⟩⟩⟩
def lw_privs : List (MethodName × Nat) := lw_privs_1 ++ (lw_privs_2 ++ (lw_privs_3 ++ (lw_privs_4 ++ (lw_privs_5))))
def lw_tbl : List Cond := k2_sels lw_privs ++ tables_1
theorem lw_privs_ok : ∀ q ∈ lw_privs, lw_okq q := by
  show ∀ q ∈ lw_privs_1 ++ (lw_privs_2 ++ (lw_privs_3 ++ (lw_privs_4 ++ (lw_privs_5)))), lw_okq q
  exact List.forall_mem_append.mpr ⟨lw_r1, List.forall_mem_append.mpr ⟨lw_r2, List.forall_mem_append.mpr ⟨lw_r3, List.forall_mem_append.mpr ⟨lw_r4, lw_r5⟩⟩⟩⟩
-- ===== ONE list of words for every method: the tables' words that hold all through a run =====
def lw_all : List Cond := lw_tbl.filter goodWord
/-- a word of the tables by its place: claim/WORDS.tsv -/
theorem lw_w {w : Cond} (i : Nat) (h : lw_tbl[i]? = some w) (g : goodWord w = true) : w ∈ lw_all := List.mem_filter.mpr ⟨List.mem_of_getElem? h, g⟩
theorem lw_all_tbl {w : Cond} (h : w ∈ lw_all) : w ∈ lw_tbl := (List.mem_filter.mp h).1
theorem lw_self : GoodIn lw_all lw_all := fun w h => ⟨h, good_of_word (List.mem_filter.mp h).2⟩
/-- a class's field words, by their places -/
theorem lw_in (ws : List Cond) (ps : List Nat) (hp : ws = ps.filterMap (fun i => lw_tbl[i]?)) (hg : ws.all goodWord = true) : ∀ w ∈ ws, w ∈ lw_all := by
  intro w h
  have h1 := List.all_eq_true.mp hg w h
  rw [hp] at h
  obtain ⟨i, -, hi⟩ := List.mem_filterMap.mp h
  exact lw_w i hi h1
/-- the words of a contract for the method y with code b, L locals, answer r -/
abbrev ws_ (y : MethodName) (b : ByteArray) (L : Nat) (r : Option FieldType) : List Cond := Cond.code y b L r :: lw_all
theorem lw_meth {y : MethodName} {b : ByteArray} {L : Nat} {r : Option FieldType} (h : Cond.code y b L r ∈ lw_all) : GoodIn lw_all (ws_ y b L r) := by
  intro w hw
  rcases List.mem_cons.mp hw with e | e
  · rw [e]
    exact lw_self _ h
  · exact lw_self _ e
theorem lw_app {a c : List Cond} (ha : ∀ w ∈ a, w ∈ lw_all) (hc : GoodIn lw_all c) : GoodIn lw_all (a ++ c) := by
  intro w hw
  rcases List.mem_append.mp hw with e | e
  · exact lw_self w (ha w e)
  · exact hc w e
/-- what a call through an object asks: cwV n hts (lw_V ..) -/
theorem lw_V {own : String} {idx : Nat} {C : String} {y : MethodName} {b : ByteArray} {L : Nat} {r : Option FieldType} (h1 : Cond.methodLink own idx y ∈ lw_all) (h2 : Cond.instanceMethod y ∈ lw_all) (h3 : Cond.selects C y y ∈ lw_all) (h4 : Cond.initialized C ∈ lw_all) (h5 : Cond.code y b L r ∈ lw_all) : GoodIn lw_all (wsV own idx C y (ws_ y b L r)) := by
  refine lw_app ?_ (lw_meth h5)
  intro w hw
  simp only [List.mem_cons, List.not_mem_nil, or_false] at hw
  rcases hw with e | e | e | e
  · rw [e]; exact h1
  · rw [e]; exact h2
  · rw [e]; exact h3
  · rw [e]; exact h4
/-- what a static call asks: va_cwS n hts (lw_S ..) -/
theorem lw_S {own : String} {idx : Nat} {y : MethodName} {b : ByteArray} {L : Nat} {r : Option FieldType} (h1 : Cond.methodLink own idx y ∈ lw_all) (h2 : Cond.static y ∈ lw_all) (h3 : Cond.initialized y.cls ∈ lw_all) (h4 : Cond.code y b L r ∈ lw_all) : GoodIn lw_all (va_wsS own idx y (ws_ y b L r)) := by
  refine lw_app ?_ (lw_meth h4)
  intro w hw
  simp only [List.mem_cons, List.not_mem_nil, or_false] at hw
  rcases hw with e | e | e
  · rw [e]; exact h1
  · rw [e]; exact h2
  · rw [e]; exact h3
/-- the words of a contract for a method WITH HANDLERS (hh: its table) -/
abbrev wsW_ (y : MethodName) (b : ByteArray) (L : Nat) (r : Option FieldType) (hh : List (Nat × Nat × Nat × Nat)) : List Cond := Cond.codeWith y b L r hh :: lw_all
theorem lw_methW {y : MethodName} {b : ByteArray} {L : Nat} {r : Option FieldType} {hh : List (Nat × Nat × Nat × Nat)} (h : Cond.codeWith y b L r hh ∈ lw_all) : GoodIn lw_all (wsW_ y b L r hh) := by
  intro w hw
  rcases List.mem_cons.mp hw with e | e
  · rw [e]
    exact lw_self _ h
  · exact lw_self _ e
/-- any list of words by their places (lw_in), good -/
theorem lw_good {ws : List Cond} (h : ∀ w ∈ ws, w ∈ lw_all) : GoodIn lw_all ws := fun w hw => lw_self w (h w hw)
/-- what a call of a method with handlers asks: vx_cwVW n hts (lw_VW ..), vx_cwSW n hts (lw_SW ..) -/
theorem lw_VW {own : String} {idx : Nat} {C : String} {y : MethodName} {b : ByteArray} {L : Nat} {r : Option FieldType} {hh : List (Nat × Nat × Nat × Nat)} (h1 : Cond.methodLink own idx y ∈ lw_all) (h2 : Cond.instanceMethod y ∈ lw_all) (h3 : Cond.selects C y y ∈ lw_all) (h4 : Cond.initialized C ∈ lw_all) (h5 : Cond.codeWith y b L r hh ∈ lw_all) : GoodIn lw_all (wsV own idx C y (wsW_ y b L r hh)) := by
  refine lw_app ?_ (lw_methW h5)
  intro w hw
  simp only [List.mem_cons, List.not_mem_nil, or_false] at hw
  rcases hw with e | e | e | e
  · rw [e]; exact h1
  · rw [e]; exact h2
  · rw [e]; exact h3
  · rw [e]; exact h4
theorem lw_SW {own : String} {idx : Nat} {y : MethodName} {b : ByteArray} {L : Nat} {r : Option FieldType} {hh : List (Nat × Nat × Nat × Nat)} (h1 : Cond.methodLink own idx y ∈ lw_all) (h2 : Cond.static y ∈ lw_all) (h3 : Cond.initialized y.cls ∈ lw_all) (h4 : Cond.codeWith y b L r hh ∈ lw_all) : GoodIn lw_all (va_wsS own idx y (wsW_ y b L r hh)) := by
  refine lw_app ?_ (lw_methW h4)
  intro w hw
  simp only [List.mem_cons, List.not_mem_nil, or_false] at hw
  rcases hw with e | e | e
  · rw [e]; exact h1
  · rw [e]; exact h2
  · rw [e]; exact h3
/-- a word by its place in its run of the tables -/
theorem lw_at {r : List Cond} (hr : ∀ w ∈ r, w ∈ lw_tbl) {w : Cond} (i : Nat) (h : r[i]? = some w) : w ∈ lw_tbl := hr w (List.mem_of_getElem? h)
theorem lw_g {w : Cond} (h : w ∈ lw_tbl) (g : goodWord w = true) : w ∈ lw_all := List.mem_filter.mpr ⟨h, g⟩
theorem lw_ms : ∀ w ∈ k2_sels lw_privs, w ∈ lw_tbl := fun w h => show w ∈ k2_sels lw_privs ++ tables_1 from List.mem_append_left _ h
theorem lw_m1 : ∀ w ∈ tables_1_1, w ∈ lw_tbl := fun w h => show w ∈ k2_sels lw_privs ++ tables_1 from List.mem_append_right (k2_sels lw_privs) (show w ∈ tables_1 from List.mem_append_left _ h)
theorem lw_m2 : ∀ w ∈ tables_1_2, w ∈ lw_tbl := fun w h => show w ∈ k2_sels lw_privs ++ tables_1 from List.mem_append_right (k2_sels lw_privs) (show w ∈ tables_1 from List.mem_append_right _ (List.mem_append_left _ h))
theorem lw_m3 : ∀ w ∈ tables_1_3, w ∈ lw_tbl := fun w h => show w ∈ k2_sels lw_privs ++ tables_1 from List.mem_append_right (k2_sels lw_privs) (show w ∈ tables_1 from List.mem_append_right _ (List.mem_append_right _ (List.mem_append_left _ h)))
theorem lw_m4 : ∀ w ∈ tables_1_4, w ∈ lw_tbl := fun w h => show w ∈ k2_sels lw_privs ++ tables_1 from List.mem_append_right (k2_sels lw_privs) (show w ∈ tables_1 from List.mem_append_right _ (List.mem_append_right _ (List.mem_append_right _ (List.mem_append_left _ h))))
theorem lw_m5 : ∀ w ∈ tables_1_5, w ∈ lw_tbl := fun w h => show w ∈ k2_sels lw_privs ++ tables_1 from List.mem_append_right (k2_sels lw_privs) (show w ∈ tables_1 from List.mem_append_right _ (List.mem_append_right _ (List.mem_append_right _ (List.mem_append_right _ (List.mem_append_left _ h)))))
theorem lw_m6 : ∀ w ∈ tables_1_6, w ∈ lw_tbl := fun w h => show w ∈ k2_sels lw_privs ++ tables_1 from List.mem_append_right (k2_sels lw_privs) (show w ∈ tables_1 from List.mem_append_right _ (List.mem_append_right _ (List.mem_append_right _ (List.mem_append_right _ (List.mem_append_right _ (List.mem_append_left _ h))))))
theorem lw_m7 : ∀ w ∈ tables_1_7, w ∈ lw_tbl := fun w h => show w ∈ k2_sels lw_privs ++ tables_1 from List.mem_append_right (k2_sels lw_privs) (show w ∈ tables_1 from List.mem_append_right _ (List.mem_append_right _ (List.mem_append_right _ (List.mem_append_right _ (List.mem_append_right _ (List.mem_append_right _ (List.mem_append_left _ h)))))))
theorem lw_m8 : ∀ w ∈ tables_1_8, w ∈ lw_tbl := fun w h => show w ∈ k2_sels lw_privs ++ tables_1 from List.mem_append_right (k2_sels lw_privs) (show w ∈ tables_1 from List.mem_append_right _ (List.mem_append_right _ (List.mem_append_right _ (List.mem_append_right _ (List.mem_append_right _ (List.mem_append_right _ (List.mem_append_right _ (List.mem_append_left _ h))))))))
theorem lw_m9 : ∀ w ∈ tables_1_9, w ∈ lw_tbl := fun w h => show w ∈ k2_sels lw_privs ++ tables_1 from List.mem_append_right (k2_sels lw_privs) (show w ∈ tables_1 from List.mem_append_right _ (List.mem_append_right _ (List.mem_append_right _ (List.mem_append_right _ (List.mem_append_right _ (List.mem_append_right _ (List.mem_append_right _ (List.mem_append_right _ (List.mem_append_left _ h)))))))))
theorem lw_m10 : ∀ w ∈ tables_1_10, w ∈ lw_tbl := fun w h => show w ∈ k2_sels lw_privs ++ tables_1 from List.mem_append_right (k2_sels lw_privs) (show w ∈ tables_1 from List.mem_append_right _ (List.mem_append_right _ (List.mem_append_right _ (List.mem_append_right _ (List.mem_append_right _ (List.mem_append_right _ (List.mem_append_right _ (List.mem_append_right _ (List.mem_append_right _ (List.mem_append_left _ h))))))))))
theorem lw_m11 : ∀ w ∈ tables_1_11, w ∈ lw_tbl := fun w h => show w ∈ k2_sels lw_privs ++ tables_1 from List.mem_append_right (k2_sels lw_privs) (show w ∈ tables_1 from List.mem_append_right _ (List.mem_append_right _ (List.mem_append_right _ (List.mem_append_right _ (List.mem_append_right _ (List.mem_append_right _ (List.mem_append_right _ (List.mem_append_right _ (List.mem_append_right _ (List.mem_append_right _ h))))))))))
theorem qs0 : (Cond.selects "java/lang/Throwable" ⟨"java/lang/Throwable", "fillInStackTrace", "(I)Ljava/lang/Throwable;"⟩ ⟨"java/lang/Throwable", "fillInStackTrace", "(I)Ljava/lang/Throwable;"⟩) ∈ lw_all := lw_g (lw_at lw_ms 0 rfl) rfl
theorem qs1 : (Cond.selects "LinkElection" ⟨"LinkElection", "put", "(I)V"⟩ ⟨"LinkElection", "put", "(I)V"⟩) ∈ lw_all := lw_g (lw_at lw_ms 1 rfl) rfl
theorem qs2 : (Cond.selects "LinkElection" ⟨"LinkElection", "election", "()LLinkElection$Election;"⟩ ⟨"LinkElection", "election", "()LLinkElection$Election;"⟩) ∈ lw_all := lw_g (lw_at lw_ms 2 rfl) rfl
theorem qs3 : (Cond.selects "LinkElection$Election" ⟨"LinkElection$Election", "weight", "(I)I"⟩ ⟨"LinkElection$Election", "weight", "(I)I"⟩) ∈ lw_all := lw_g (lw_at lw_ms 3 rfl) rfl
theorem qs4 : (Cond.selects "LinkElection$Election" ⟨"LinkElection$Election", "hold", "(I)V"⟩ ⟨"LinkElection$Election", "hold", "(I)V"⟩) ∈ lw_all := lw_g (lw_at lw_ms 4 rfl) rfl
theorem qs5 : (Cond.selects "LinkElection$Election" ⟨"LinkElection$Election", "choice", "(II)I"⟩ ⟨"LinkElection$Election", "choice", "(II)I"⟩) ∈ lw_all := lw_g (lw_at lw_ms 5 rfl) rfl
theorem qs6 : (Cond.selects "LinkElection$Election" ⟨"LinkElection$Election", "bound", "(II)I"⟩ ⟨"LinkElection$Election", "bound", "(II)I"⟩) ∈ lw_all := lw_g (lw_at lw_ms 6 rfl) rfl
theorem qs7 : (Cond.selects "LinkElection$Parser" ⟨"LinkElection$Parser", "word", "()Ljava/lang/String;"⟩ ⟨"LinkElection$Parser", "word", "()Ljava/lang/String;"⟩) ∈ lw_all := lw_g (lw_at lw_ms 7 rfl) rfl
theorem qs8 : (Cond.selects "LinkElection$Parser" ⟨"LinkElection$Parser", "peek", "()I"⟩ ⟨"LinkElection$Parser", "peek", "()I"⟩) ∈ lw_all := lw_g (lw_at lw_ms 8 rfl) rfl
theorem qs9 : (Cond.selects "LinkElection$Parser" ⟨"LinkElection$Parser", "isLetterAt", "(I)Z"⟩ ⟨"LinkElection$Parser", "isLetterAt", "(I)Z"⟩) ∈ lw_all := lw_g (lw_at lw_ms 9 rfl) rfl
theorem qs10 : (Cond.selects "LinkElection$Parser" ⟨"LinkElection$Parser", "require", "(ZII)V"⟩ ⟨"LinkElection$Parser", "require", "(ZII)V"⟩) ∈ lw_all := lw_g (lw_at lw_ms 10 rfl) rfl
theorem qs11 : (Cond.selects "LinkElection$Parser" ⟨"LinkElection$Parser", "expect", "(I)V"⟩ ⟨"LinkElection$Parser", "expect", "(I)V"⟩) ∈ lw_all := lw_g (lw_at lw_ms 11 rfl) rfl
theorem qs12 : (Cond.selects "LinkElection$Parser" ⟨"LinkElection$Parser", "statement", "()V"⟩ ⟨"LinkElection$Parser", "statement", "()V"⟩) ∈ lw_all := lw_g (lw_at lw_ms 12 rfl) rfl
theorem qs13 : (Cond.selects "LinkElection$Parser" ⟨"LinkElection$Parser", "name", "(I)V"⟩ ⟨"LinkElection$Parser", "name", "(I)V"⟩) ∈ lw_all := lw_g (lw_at lw_ms 13 rfl) rfl
theorem qs14 : (Cond.selects "LinkElection$Parser" ⟨"LinkElection$Parser", "toldWord", "()Ljava/lang/String;"⟩ ⟨"LinkElection$Parser", "toldWord", "()Ljava/lang/String;"⟩) ∈ lw_all := lw_g (lw_at lw_ms 14 rfl) rfl
theorem qs15 : (Cond.selects "LinkElection$Parser" ⟨"LinkElection$Parser", "nameOf", "(Ljava/lang/String;)I"⟩ ⟨"LinkElection$Parser", "nameOf", "(Ljava/lang/String;)I"⟩) ∈ lw_all := lw_g (lw_at lw_ms 15 rfl) rfl
theorem qs16 : (Cond.selects "java/util/ArrayList" ⟨"java/util/ArrayList", "add", "(Ljava/lang/Object;[Ljava/lang/Object;I)V"⟩ ⟨"java/util/ArrayList", "add", "(Ljava/lang/Object;[Ljava/lang/Object;I)V"⟩) ∈ lw_all := lw_g (lw_at lw_ms 16 rfl) rfl
theorem qs17 : (Cond.selects "java/util/ArrayList" ⟨"java/util/ArrayList", "grow", "()[Ljava/lang/Object;"⟩ ⟨"java/util/ArrayList", "grow", "()[Ljava/lang/Object;"⟩) ∈ lw_all := lw_g (lw_at lw_ms 17 rfl) rfl
theorem qs18 : (Cond.selects "java/util/ArrayList" ⟨"java/util/ArrayList", "grow", "(I)[Ljava/lang/Object;"⟩ ⟨"java/util/ArrayList", "grow", "(I)[Ljava/lang/Object;"⟩) ∈ lw_all := lw_g (lw_at lw_ms 18 rfl) rfl
theorem qs19 : (Cond.selects "LinkElection$Parser" ⟨"LinkElection$Parser", "library", "(I)V"⟩ ⟨"LinkElection$Parser", "library", "(I)V"⟩) ∈ lw_all := lw_g (lw_at lw_ms 19 rfl) rfl
theorem qs20 : (Cond.selects "LinkElection$Parser" ⟨"LinkElection$Parser", "libraryOf", "(Ljava/lang/String;)I"⟩ ⟨"LinkElection$Parser", "libraryOf", "(Ljava/lang/String;)I"⟩) ∈ lw_all := lw_g (lw_at lw_ms 20 rfl) rfl
theorem qs21 : (Cond.selects "LinkElection$Parser" ⟨"LinkElection$Parser", "number", "(II)I"⟩ ⟨"LinkElection$Parser", "number", "(II)I"⟩) ∈ lw_all := lw_g (lw_at lw_ms 21 rfl) rfl
theorem qs22 : (Cond.selects "LinkElection$Parser" ⟨"LinkElection$Parser", "isDigit", "()Z"⟩ ⟨"LinkElection$Parser", "isDigit", "()Z"⟩) ∈ lw_all := lw_g (lw_at lw_ms 22 rfl) rfl
theorem qs23 : (Cond.selects "LinkElection$Parser" ⟨"LinkElection$Parser", "accept", "(Ljava/lang/String;)Z"⟩ ⟨"LinkElection$Parser", "accept", "(Ljava/lang/String;)Z"⟩) ∈ lw_all := lw_g (lw_at lw_ms 23 rfl) rfl
theorem qs24 : (Cond.selects "LinkElection$Parser" ⟨"LinkElection$Parser", "offer", "()V"⟩ ⟨"LinkElection$Parser", "offer", "()V"⟩) ∈ lw_all := lw_g (lw_at lw_ms 24 rfl) rfl
theorem qs25 : (Cond.selects "LinkElection$Parser" ⟨"LinkElection$Parser", "known", "(I)I"⟩ ⟨"LinkElection$Parser", "known", "(I)I"⟩) ∈ lw_all := lw_g (lw_at lw_ms 25 rfl) rfl
theorem qs26 : (Cond.selects "LinkElection$Parser" ⟨"LinkElection$Parser", "prefer", "()V"⟩ ⟨"LinkElection$Parser", "prefer", "()V"⟩) ∈ lw_all := lw_g (lw_at lw_ms 26 rfl) rfl
theorem qs27 : (Cond.selects "LinkElection$Parser" ⟨"LinkElection$Parser", "sum", "()LLinkElection$Weight;"⟩ ⟨"LinkElection$Parser", "sum", "()LLinkElection$Weight;"⟩) ∈ lw_all := lw_g (lw_at lw_ms 27 rfl) rfl
theorem qs28 : (Cond.selects "LinkElection$Parser" ⟨"LinkElection$Parser", "term", "()LLinkElection$Weight;"⟩ ⟨"LinkElection$Parser", "term", "()LLinkElection$Weight;"⟩) ∈ lw_all := lw_g (lw_at lw_ms 28 rfl) rfl
theorem qs29 : (Cond.selects "LinkElection$Parser" ⟨"LinkElection$Parser", "factor", "()LLinkElection$Weight;"⟩ ⟨"LinkElection$Parser", "factor", "()LLinkElection$Weight;"⟩) ∈ lw_all := lw_g (lw_at lw_ms 29 rfl) rfl
theorem qs30 : (Cond.selects "LinkElection" ⟨"LinkElection", "replace", "(LLinkElection$House;)V"⟩ ⟨"LinkElection", "replace", "(LLinkElection$House;)V"⟩) ∈ lw_all := lw_g (lw_at lw_ms 30 rfl) rfl
theorem qs31 : (Cond.selects "java/util/ArrayDeque" ⟨"java/util/ArrayDeque", "grow", "(I)V"⟩ ⟨"java/util/ArrayDeque", "grow", "(I)V"⟩) ∈ lw_all := lw_g (lw_at lw_ms 31 rfl) rfl
theorem qs32 : (Cond.selects "java/util/ArrayDeque" ⟨"java/util/ArrayDeque", "newCapacity", "(II)I"⟩ ⟨"java/util/ArrayDeque", "newCapacity", "(II)I"⟩) ∈ lw_all := lw_g (lw_at lw_ms 32 rfl) rfl
theorem qs33 : (Cond.selects "LinkElection" ⟨"LinkElection", "libraryAt", "(I)LLinkElection$Library;"⟩ ⟨"LinkElection", "libraryAt", "(I)LLinkElection$Library;"⟩) ∈ lw_all := lw_g (lw_at lw_ms 33 rfl) rfl
theorem qs34 : (Cond.selects "LinkElection" ⟨"LinkElection", "requireBoth", "(II)V"⟩ ⟨"LinkElection", "requireBoth", "(II)V"⟩) ∈ lw_all := lw_g (lw_at lw_ms 34 rfl) rfl
theorem qs35 : (Cond.selects "LinkElection" ⟨"LinkElection", "requireName", "(I)V"⟩ ⟨"LinkElection", "requireName", "(I)V"⟩) ∈ lw_all := lw_g (lw_at lw_ms 35 rfl) rfl
theorem qs36 : (Cond.selects "LinkElection" ⟨"LinkElection", "change", "()LLinkElection$House;"⟩ ⟨"LinkElection", "change", "()LLinkElection$House;"⟩) ∈ lw_all := lw_g (lw_at lw_ms 36 rfl) rfl
theorem qs37 : (Cond.selects "java/util/ArrayList" ⟨"java/util/ArrayList", "fastRemove", "([Ljava/lang/Object;I)V"⟩ ⟨"java/util/ArrayList", "fastRemove", "([Ljava/lang/Object;I)V"⟩) ∈ lw_all := lw_g (lw_at lw_ms 37 rfl) rfl
theorem qs38 : (Cond.selects "LinkElection" ⟨"LinkElection", "offers", "(III)I"⟩ ⟨"LinkElection", "offers", "(III)I"⟩) ∈ lw_all := lw_g (lw_at lw_ms 38 rfl) rfl
theorem qs39 : (Cond.selects "LinkElectionModel" ⟨"LinkElectionModel", "fails", "(ZI)Z"⟩ ⟨"LinkElectionModel", "fails", "(ZI)Z"⟩) ∈ lw_all := lw_g (lw_at lw_ms 39 rfl) rfl
theorem qs40 : (Cond.selects "LinkElectionModel" ⟨"LinkElectionModel", "takeWord", "(Ljava/lang/String;)Z"⟩ ⟨"LinkElectionModel", "takeWord", "(Ljava/lang/String;)Z"⟩) ∈ lw_all := lw_g (lw_at lw_ms 40 rfl) rfl
theorem qs41 : (Cond.selects "LinkElectionModel" ⟨"LinkElectionModel", "isGood", "()Z"⟩ ⟨"LinkElectionModel", "isGood", "()Z"⟩) ∈ lw_all := lw_g (lw_at lw_ms 41 rfl) rfl
theorem qs42 : (Cond.selects "LinkElectionModel" ⟨"LinkElectionModel", "next", "()I"⟩ ⟨"LinkElectionModel", "next", "()I"⟩) ∈ lw_all := lw_g (lw_at lw_ms 42 rfl) rfl
theorem qs43 : (Cond.selects "LinkElectionModel" ⟨"LinkElectionModel", "byteAt", "(I)I"⟩ ⟨"LinkElectionModel", "byteAt", "(I)I"⟩) ∈ lw_all := lw_g (lw_at lw_ms 43 rfl) rfl
theorem qs44 : (Cond.selects "LinkElectionModel" ⟨"LinkElectionModel", "report", "(II)V"⟩ ⟨"LinkElectionModel", "report", "(II)V"⟩) ∈ lw_all := lw_g (lw_at lw_ms 44 rfl) rfl
theorem qs45 : (Cond.selects "LinkElectionModel" ⟨"LinkElectionModel", "expect", "(I)V"⟩ ⟨"LinkElectionModel", "expect", "(I)V"⟩) ∈ lw_all := lw_g (lw_at lw_ms 45 rfl) rfl
theorem qs46 : (Cond.selects "LinkElectionModel" ⟨"LinkElectionModel", "statement", "()V"⟩ ⟨"LinkElectionModel", "statement", "()V"⟩) ∈ lw_all := lw_g (lw_at lw_ms 46 rfl) rfl
theorem qs47 : (Cond.selects "LinkElectionModel" ⟨"LinkElectionModel", "readName", "(I)V"⟩ ⟨"LinkElectionModel", "readName", "(I)V"⟩) ∈ lw_all := lw_g (lw_at lw_ms 47 rfl) rfl
theorem qs48 : (Cond.selects "LinkElectionModel" ⟨"LinkElectionModel", "readWord", "()J"⟩ ⟨"LinkElectionModel", "readWord", "()J"⟩) ∈ lw_all := lw_g (lw_at lw_ms 48 rfl) rfl
theorem qs49 : (Cond.selects "LinkElectionModel" ⟨"LinkElectionModel", "isFresh", "([JIJ)Z"⟩ ⟨"LinkElectionModel", "isFresh", "([JIJ)Z"⟩) ∈ lw_all := lw_g (lw_at lw_ms 49 rfl) rfl
theorem qs50 : (Cond.selects "LinkElectionModel" ⟨"LinkElectionModel", "readLibrary", "(I)V"⟩ ⟨"LinkElectionModel", "readLibrary", "(I)V"⟩) ∈ lw_all := lw_g (lw_at lw_ms 50 rfl) rfl
theorem qs51 : (Cond.selects "LinkElectionModel" ⟨"LinkElectionModel", "number", "(II)I"⟩ ⟨"LinkElectionModel", "number", "(II)I"⟩) ∈ lw_all := lw_g (lw_at lw_ms 51 rfl) rfl
theorem qs52 : (Cond.selects "LinkElectionModel" ⟨"LinkElectionModel", "readOffer", "()V"⟩ ⟨"LinkElectionModel", "readOffer", "()V"⟩) ∈ lw_all := lw_g (lw_at lw_ms 52 rfl) rfl
theorem qs53 : (Cond.selects "LinkElectionModel" ⟨"LinkElectionModel", "readKnown", "([JI)I"⟩ ⟨"LinkElectionModel", "readKnown", "([JI)I"⟩) ∈ lw_all := lw_g (lw_at lw_ms 53 rfl) rfl
theorem qs54 : (Cond.selects "LinkElectionModel" ⟨"LinkElectionModel", "readPreference", "()V"⟩ ⟨"LinkElectionModel", "readPreference", "()V"⟩) ∈ lw_all := lw_g (lw_at lw_ms 54 rfl) rfl
theorem qs55 : (Cond.selects "LinkElectionModel" ⟨"LinkElectionModel", "prefers", "([III)Z"⟩ ⟨"LinkElectionModel", "prefers", "([III)Z"⟩) ∈ lw_all := lw_g (lw_at lw_ms 55 rfl) rfl
theorem qs56 : (Cond.selects "LinkElectionModel" ⟨"LinkElectionModel", "once", "(II)V"⟩ ⟨"LinkElectionModel", "once", "(II)V"⟩) ∈ lw_all := lw_g (lw_at lw_ms 56 rfl) rfl
theorem qs57 : (Cond.selects "LinkElectionModel" ⟨"LinkElectionModel", "sum", "()V"⟩ ⟨"LinkElectionModel", "sum", "()V"⟩) ∈ lw_all := lw_g (lw_at lw_ms 57 rfl) rfl
theorem qs58 : (Cond.selects "LinkElectionModel" ⟨"LinkElectionModel", "term", "()V"⟩ ⟨"LinkElectionModel", "term", "()V"⟩) ∈ lw_all := lw_g (lw_at lw_ms 58 rfl) rfl
theorem qs59 : (Cond.selects "LinkElectionModel" ⟨"LinkElectionModel", "factor", "()V"⟩ ⟨"LinkElectionModel", "factor", "()V"⟩) ∈ lw_all := lw_g (lw_at lw_ms 59 rfl) rfl
theorem qs60 : (Cond.selects "LinkElectionModel" ⟨"LinkElectionModel", "emit", "(I)V"⟩ ⟨"LinkElectionModel", "emit", "(I)V"⟩) ∈ lw_all := lw_g (lw_at lw_ms 60 rfl) rfl
theorem qs61 : (Cond.selects "LinkElectionModel" ⟨"LinkElectionModel", "remember", "()V"⟩ ⟨"LinkElectionModel", "remember", "()V"⟩) ∈ lw_all := lw_g (lw_at lw_ms 61 rfl) rfl
theorem qs62 : (Cond.selects "LinkElectionModel" ⟨"LinkElectionModel", "noLibrary", "(I)Z"⟩ ⟨"LinkElectionModel", "noLibrary", "(I)Z"⟩) ∈ lw_all := lw_g (lw_at lw_ms 62 rfl) rfl
theorem qs63 : (Cond.selects "LinkElectionModel" ⟨"LinkElectionModel", "told", "(II)I"⟩ ⟨"LinkElectionModel", "told", "(II)I"⟩) ∈ lw_all := lw_g (lw_at lw_ms 63 rfl) rfl
theorem qs64 : (Cond.selects "LinkElectionModel" ⟨"LinkElectionModel", "rankOf", "(I)I"⟩ ⟨"LinkElectionModel", "rankOf", "(I)I"⟩) ∈ lw_all := lw_g (lw_at lw_ms 64 rfl) rfl
theorem qs65 : (Cond.selects "LinkElectionModel" ⟨"LinkElectionModel", "isLoaded", "(I)Z"⟩ ⟨"LinkElectionModel", "isLoaded", "(I)Z"⟩) ∈ lw_all := lw_g (lw_at lw_ms 65 rfl) rfl
theorem qs66 : (Cond.selects "LinkElectionModel" ⟨"LinkElectionModel", "offersOf", "(I)I"⟩ ⟨"LinkElectionModel", "offersOf", "(I)I"⟩) ∈ lw_all := lw_g (lw_at lw_ms 66 rfl) rfl
theorem qs67 : (Cond.selects "LinkElectionModel" ⟨"LinkElectionModel", "weightOf", "(I)I"⟩ ⟨"LinkElectionModel", "weightOf", "(I)I"⟩) ∈ lw_all := lw_g (lw_at lw_ms 67 rfl) rfl
theorem qs68 : (Cond.selects "LinkElectionModel" ⟨"LinkElectionModel", "friendsOf", "(I)I"⟩ ⟨"LinkElectionModel", "friendsOf", "(I)I"⟩) ∈ lw_all := lw_g (lw_at lw_ms 68 rfl) rfl
theorem qs69 : (Cond.selects "LinkElectionModel" ⟨"LinkElectionModel", "noName", "(I)Z"⟩ ⟨"LinkElectionModel", "noName", "(I)Z"⟩) ∈ lw_all := lw_g (lw_at lw_ms 69 rfl) rfl
theorem qs70 : (Cond.selects "LinkElectionModel" ⟨"LinkElectionModel", "isCandidate", "(II)Z"⟩ ⟨"LinkElectionModel", "isCandidate", "(II)Z"⟩) ∈ lw_all := lw_g (lw_at lw_ms 70 rfl) rfl
theorem qs71 : (Cond.selects "LinkElectionModel" ⟨"LinkElectionModel", "voteOf", "(II)I"⟩ ⟨"LinkElectionModel", "voteOf", "(II)I"⟩) ∈ lw_all := lw_g (lw_at lw_ms 71 rfl) rfl
theorem qs72 : (Cond.selects "LinkElectionModel" ⟨"LinkElectionModel", "isMissing", "(II)Z"⟩ ⟨"LinkElectionModel", "isMissing", "(II)Z"⟩) ∈ lw_all := lw_g (lw_at lw_ms 72 rfl) rfl
theorem qs73 : (Cond.selects "LinkElectionModel" ⟨"LinkElectionModel", "layAll", "()V"⟩ ⟨"LinkElectionModel", "layAll", "()V"⟩) ∈ lw_all := lw_g (lw_at lw_ms 73 rfl) rfl
theorem qs74 : (Cond.selects "LinkElectionModel" ⟨"LinkElectionModel", "layName", "(I)V"⟩ ⟨"LinkElectionModel", "layName", "(I)V"⟩) ∈ lw_all := lw_g (lw_at lw_ms 74 rfl) rfl
theorem qs75 : (Cond.selects "LinkElectionModel" ⟨"LinkElectionModel", "follow", "(II)I"⟩ ⟨"LinkElectionModel", "follow", "(II)I"⟩) ∈ lw_all := lw_g (lw_at lw_ms 75 rfl) rfl
theorem qs76 : (Cond.selects "LinkElectionModel" ⟨"LinkElectionModel", "keepBindings", "()V"⟩ ⟨"LinkElectionModel", "keepBindings", "()V"⟩) ∈ lw_all := lw_g (lw_at lw_ms 76 rfl) rfl
theorem qs77 : (Cond.selects "LinkElectionModel" ⟨"LinkElectionModel", "changedBut", "(I)I"⟩ ⟨"LinkElectionModel", "changedBut", "(I)I"⟩) ∈ lw_all := lw_g (lw_at lw_ms 77 rfl) rfl
theorem qs78 : (Cond.selects "LinkElectionModel" ⟨"LinkElectionModel", "put", "(III)I"⟩ ⟨"LinkElectionModel", "put", "(III)I"⟩) ∈ lw_all := lw_g (lw_at lw_ms 78 rfl) rfl
