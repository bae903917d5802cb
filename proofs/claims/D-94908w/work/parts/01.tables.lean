-- ===== PART A: goes FIRST, ahead of the names: the tables' words, and 'selects' of the private methods out of them =====
/-- a private method of a class that the tables say can be made, by its rows of tables_1 -/
def lw_okq (q : MethodName × Nat) : Prop := (q.1.cls ≠ "java/lang/invoke/MethodHandle" ∧ q.1.cls ≠ "java/lang/invoke/VarHandle") ∧ Cond.instantiable q.1.cls q.2 ∈ tables_1 ∧ Cond.privateMethod q.1 ∈ tables_1 ∧ Cond.instanceMethod q.1 ∈ tables_1
set_option maxRecDepth 100000
theorem lw_t1 {w : Cond} (h : w ∈ tables_1_1) : w ∈ tables_1 := List.mem_append_left _ h
theorem lw_t2 {w : Cond} (h : w ∈ tables_1_2) : w ∈ tables_1 := List.mem_append_right _ (List.mem_append_left _ h)
theorem lw_t3 {w : Cond} (h : w ∈ tables_1_3) : w ∈ tables_1 := List.mem_append_right _ (List.mem_append_right _ (List.mem_append_left _ h))
theorem lw_t4 {w : Cond} (h : w ∈ tables_1_4) : w ∈ tables_1 := List.mem_append_right _ (List.mem_append_right _ (List.mem_append_right _ (List.mem_append_left _ h)))
theorem lw_t5 {w : Cond} (h : w ∈ tables_1_5) : w ∈ tables_1 := List.mem_append_right _ (List.mem_append_right _ (List.mem_append_right _ (List.mem_append_right _ (List.mem_append_left _ h))))
theorem lw_t6 {w : Cond} (h : w ∈ tables_1_6) : w ∈ tables_1 := List.mem_append_right _ (List.mem_append_right _ (List.mem_append_right _ (List.mem_append_right _ (List.mem_append_right _ (List.mem_append_left _ h)))))
theorem lw_t7 {w : Cond} (h : w ∈ tables_1_7) : w ∈ tables_1 := List.mem_append_right _ (List.mem_append_right _ (List.mem_append_right _ (List.mem_append_right _ (List.mem_append_right _ (List.mem_append_right _ (List.mem_append_left _ h))))))
theorem lw_t8 {w : Cond} (h : w ∈ tables_1_8) : w ∈ tables_1 := List.mem_append_right _ (List.mem_append_right _ (List.mem_append_right _ (List.mem_append_right _ (List.mem_append_right _ (List.mem_append_right _ (List.mem_append_right _ (List.mem_append_left _ h)))))))
theorem lw_t9 {w : Cond} (h : w ∈ tables_1_9) : w ∈ tables_1 := List.mem_append_right _ (List.mem_append_right _ (List.mem_append_right _ (List.mem_append_right _ (List.mem_append_right _ (List.mem_append_right _ (List.mem_append_right _ (List.mem_append_right _ (List.mem_append_left _ h))))))))
theorem lw_t10 {w : Cond} (h : w ∈ tables_1_10) : w ∈ tables_1 := List.mem_append_right _ (List.mem_append_right _ (List.mem_append_right _ (List.mem_append_right _ (List.mem_append_right _ (List.mem_append_right _ (List.mem_append_right _ (List.mem_append_right _ (List.mem_append_right _ h))))))))
theorem lw_p0 : lw_okq (⟨"java/lang/Throwable", "fillInStackTrace", "(I)Ljava/lang/Throwable;"⟩, 6) := ⟨⟨by decide +kernel, by decide +kernel⟩, lw_t1 (List.mem_of_getElem? (i := 84) rfl), lw_t1 (List.mem_of_getElem? (i := 82) rfl), lw_t1 (List.mem_of_getElem? (i := 83) rfl)⟩
theorem lw_p1 : lw_okq (⟨"ThreadTown$Cloth", "asks", "(LThreadTown$Law;IIII)I"⟩, 11) := ⟨⟨by decide +kernel, by decide +kernel⟩, lw_t2 (List.mem_of_getElem? (i := 55) rfl), lw_t2 (List.mem_of_getElem? (i := 192) rfl), lw_t2 (List.mem_of_getElem? (i := 193) rfl)⟩
theorem lw_p2 : lw_okq (⟨"ThreadTown", "typed", "(I)V"⟩, 25) := ⟨⟨by decide +kernel, by decide +kernel⟩, lw_t1 (List.mem_of_getElem? (i := 40) rfl), lw_t3 (List.mem_of_getElem? (i := 60) rfl), lw_t3 (List.mem_of_getElem? (i := 61) rfl)⟩
theorem lw_p3 : lw_okq (⟨"ThreadTown$Tokens", "isLetter", "(I)Z"⟩, 8) := ⟨⟨by decide +kernel, by decide +kernel⟩, lw_t1 (List.mem_of_getElem? (i := 122) rfl), lw_t3 (List.mem_of_getElem? (i := 80) rfl), lw_t3 (List.mem_of_getElem? (i := 81) rfl)⟩
theorem lw_p4 : lw_okq (⟨"ThreadTown$Tokens", "at", "(I)I"⟩, 8) := ⟨⟨by decide +kernel, by decide +kernel⟩, lw_t1 (List.mem_of_getElem? (i := 122) rfl), lw_t3 (List.mem_of_getElem? (i := 84) rfl), lw_t3 (List.mem_of_getElem? (i := 85) rfl)⟩
theorem lw_p5 : lw_okq (⟨"ThreadTown$Tokens", "word", "(II)I"⟩, 8) := ⟨⟨by decide +kernel, by decide +kernel⟩, lw_t1 (List.mem_of_getElem? (i := 122) rfl), lw_t3 (List.mem_of_getElem? (i := 88) rfl), lw_t3 (List.mem_of_getElem? (i := 89) rfl)⟩
theorem lw_p6 : lw_okq (⟨"ThreadTown$Tokens", "isDigit", "(I)Z"⟩, 8) := ⟨⟨by decide +kernel, by decide +kernel⟩, lw_t1 (List.mem_of_getElem? (i := 122) rfl), lw_t3 (List.mem_of_getElem? (i := 138) rfl), lw_t3 (List.mem_of_getElem? (i := 139) rfl)⟩
theorem lw_p7 : lw_okq (⟨"ThreadTown$Tokens", "sign", "(I)I"⟩, 8) := ⟨⟨by decide +kernel, by decide +kernel⟩, lw_t1 (List.mem_of_getElem? (i := 122) rfl), lw_t3 (List.mem_of_getElem? (i := 142) rfl), lw_t3 (List.mem_of_getElem? (i := 143) rfl)⟩
theorem lw_p8 : lw_okq (⟨"ThreadTown$Tokens", "add", "(IIII)V"⟩, 8) := ⟨⟨by decide +kernel, by decide +kernel⟩, lw_t1 (List.mem_of_getElem? (i := 122) rfl), lw_t3 (List.mem_of_getElem? (i := 146) rfl), lw_t3 (List.mem_of_getElem? (i := 147) rfl)⟩
theorem lw_p9 : lw_okq (⟨"ThreadTown$Parser", "sort", "()I"⟩, 7) := ⟨⟨by decide +kernel, by decide +kernel⟩, lw_t1 (List.mem_of_getElem? (i := 178) rfl), lw_t3 (List.mem_of_getElem? (i := 152) rfl), lw_t3 (List.mem_of_getElem? (i := 153) rfl)⟩
theorem lw_p10 : lw_okq (⟨"ThreadTown$Parser", "wrong", "(I)LThreadTown$Fault;"⟩, 7) := ⟨⟨by decide +kernel, by decide +kernel⟩, lw_t1 (List.mem_of_getElem? (i := 178) rfl), lw_t3 (List.mem_of_getElem? (i := 156) rfl), lw_t3 (List.mem_of_getElem? (i := 157) rfl)⟩
theorem lw_p11 : lw_okq (⟨"ThreadTown$Parser", "wrongAt", "(II)LThreadTown$Fault;"⟩, 7) := ⟨⟨by decide +kernel, by decide +kernel⟩, lw_t1 (List.mem_of_getElem? (i := 178) rfl), lw_t3 (List.mem_of_getElem? (i := 160) rfl), lw_t3 (List.mem_of_getElem? (i := 161) rfl)⟩
theorem lw_p12 : lw_okq (⟨"ThreadTown$Parser", "told", "()V"⟩, 7) := ⟨⟨by decide +kernel, by decide +kernel⟩, lw_t1 (List.mem_of_getElem? (i := 178) rfl), lw_t3 (List.mem_of_getElem? (i := 168) rfl), lw_t3 (List.mem_of_getElem? (i := 169) rfl)⟩
theorem lw_p13 : lw_okq (⟨"ThreadTown$Parser", "pass", "()V"⟩, 7) := ⟨⟨by decide +kernel, by decide +kernel⟩, lw_t1 (List.mem_of_getElem? (i := 178) rfl), lw_t3 (List.mem_of_getElem? (i := 172) rfl), lw_t3 (List.mem_of_getElem? (i := 173) rfl)⟩
theorem lw_p14 : lw_okq (⟨"ThreadTown$Parser", "number", "(II)I"⟩, 7) := ⟨⟨by decide +kernel, by decide +kernel⟩, lw_t1 (List.mem_of_getElem? (i := 178) rfl), lw_t3 (List.mem_of_getElem? (i := 176) rfl), lw_t3 (List.mem_of_getElem? (i := 177) rfl)⟩
theorem lw_p15 : lw_okq (⟨"ThreadTown$Parser", "take", "(I)I"⟩, 7) := ⟨⟨by decide +kernel, by decide +kernel⟩, lw_t1 (List.mem_of_getElem? (i := 178) rfl), lw_t3 (List.mem_of_getElem? (i := 180) rfl), lw_t3 (List.mem_of_getElem? (i := 181) rfl)⟩
def lw_privs_1 : List (MethodName × Nat) := [(⟨"java/lang/Throwable", "fillInStackTrace", "(I)Ljava/lang/Throwable;"⟩, 6), (⟨"ThreadTown$Cloth", "asks", "(LThreadTown$Law;IIII)I"⟩, 11), (⟨"ThreadTown", "typed", "(I)V"⟩, 25), (⟨"ThreadTown$Tokens", "isLetter", "(I)Z"⟩, 8), (⟨"ThreadTown$Tokens", "at", "(I)I"⟩, 8), (⟨"ThreadTown$Tokens", "word", "(II)I"⟩, 8), (⟨"ThreadTown$Tokens", "isDigit", "(I)Z"⟩, 8), (⟨"ThreadTown$Tokens", "sign", "(I)I"⟩, 8), (⟨"ThreadTown$Tokens", "add", "(IIII)V"⟩, 8), (⟨"ThreadTown$Parser", "sort", "()I"⟩, 7), (⟨"ThreadTown$Parser", "wrong", "(I)LThreadTown$Fault;"⟩, 7), (⟨"ThreadTown$Parser", "wrongAt", "(II)LThreadTown$Fault;"⟩, 7), (⟨"ThreadTown$Parser", "told", "()V"⟩, 7), (⟨"ThreadTown$Parser", "pass", "()V"⟩, 7), (⟨"ThreadTown$Parser", "number", "(II)I"⟩, 7), (⟨"ThreadTown$Parser", "take", "(I)I"⟩, 7)]
theorem lw_r1 : ∀ q ∈ lw_privs_1, lw_okq q := List.forall_mem_cons.mpr ⟨lw_p0, List.forall_mem_cons.mpr ⟨lw_p1, List.forall_mem_cons.mpr ⟨lw_p2, List.forall_mem_cons.mpr ⟨lw_p3, List.forall_mem_cons.mpr ⟨lw_p4, List.forall_mem_cons.mpr ⟨lw_p5, List.forall_mem_cons.mpr ⟨lw_p6, List.forall_mem_cons.mpr ⟨lw_p7, List.forall_mem_cons.mpr ⟨lw_p8, List.forall_mem_cons.mpr ⟨lw_p9, List.forall_mem_cons.mpr ⟨lw_p10, List.forall_mem_cons.mpr ⟨lw_p11, List.forall_mem_cons.mpr ⟨lw_p12, List.forall_mem_cons.mpr ⟨lw_p13, List.forall_mem_cons.mpr ⟨lw_p14, List.forall_mem_cons.mpr ⟨lw_p15, fun _ h => absurd h List.not_mem_nil⟩⟩⟩⟩⟩⟩⟩⟩⟩⟩⟩⟩⟩⟩⟩⟩
theorem lw_p16 : lw_okq (⟨"ThreadTown$Parser", "tell", "(II)V"⟩, 7) := ⟨⟨by decide +kernel, by decide +kernel⟩, lw_t1 (List.mem_of_getElem? (i := 178) rfl), lw_t3 (List.mem_of_getElem? (i := 188) rfl), lw_t3 (List.mem_of_getElem? (i := 189) rfl)⟩
theorem lw_p17 : lw_okq (⟨"ThreadTown$Parser", "begins", "(II)V"⟩, 7) := ⟨⟨by decide +kernel, by decide +kernel⟩, lw_t1 (List.mem_of_getElem? (i := 178) rfl), lw_t3 (List.mem_of_getElem? (i := 193) rfl), lw_t3 (List.mem_of_getElem? (i := 194) rfl)⟩
theorem lw_p18 : lw_okq (⟨"ThreadTown$Parser", "name", "()Ljava/lang/String;"⟩, 7) := ⟨⟨by decide +kernel, by decide +kernel⟩, lw_t1 (List.mem_of_getElem? (i := 178) rfl), lw_t3 (List.mem_of_getElem? (i := 199) rfl), lw_t3 (List.mem_of_getElem? (i := 200) rfl)⟩
theorem lw_p19 : lw_okq (⟨"java/util/ArrayList", "add", "(Ljava/lang/Object;[Ljava/lang/Object;I)V"⟩, 3) := ⟨⟨by decide +kernel, by decide +kernel⟩, lw_t1 (List.mem_of_getElem? (i := 212) rfl), lw_t4 (List.mem_of_getElem? (i := 193) rfl), lw_t4 (List.mem_of_getElem? (i := 194) rfl)⟩
theorem lw_p20 : lw_okq (⟨"java/util/ArrayList", "grow", "()[Ljava/lang/Object;"⟩, 3) := ⟨⟨by decide +kernel, by decide +kernel⟩, lw_t1 (List.mem_of_getElem? (i := 212) rfl), lw_t4 (List.mem_of_getElem? (i := 197) rfl), lw_t4 (List.mem_of_getElem? (i := 198) rfl)⟩
theorem lw_p21 : lw_okq (⟨"java/util/ArrayList", "grow", "(I)[Ljava/lang/Object;"⟩, 3) := ⟨⟨by decide +kernel, by decide +kernel⟩, lw_t1 (List.mem_of_getElem? (i := 212) rfl), lw_t4 (List.mem_of_getElem? (i := 201) rfl), lw_t4 (List.mem_of_getElem? (i := 202) rfl)⟩
theorem lw_p22 : lw_okq (⟨"ThreadTown$Parser", "known", "()I"⟩, 7) := ⟨⟨by decide +kernel, by decide +kernel⟩, lw_t1 (List.mem_of_getElem? (i := 178) rfl), lw_t5 (List.mem_of_getElem? (i := 2) rfl), lw_t5 (List.mem_of_getElem? (i := 3) rfl)⟩
theorem lw_p23 : lw_okq (⟨"ThreadTown$Parser", "law", "()LThreadTown$Law;"⟩, 7) := ⟨⟨by decide +kernel, by decide +kernel⟩, lw_t1 (List.mem_of_getElem? (i := 178) rfl), lw_t5 (List.mem_of_getElem? (i := 7) rfl), lw_t5 (List.mem_of_getElem? (i := 8) rfl)⟩
theorem lw_p24 : lw_okq (⟨"ThreadTown$Parser", "sign", "(I)V"⟩, 7) := ⟨⟨by decide +kernel, by decide +kernel⟩, lw_t1 (List.mem_of_getElem? (i := 178) rfl), lw_t5 (List.mem_of_getElem? (i := 36) rfl), lw_t5 (List.mem_of_getElem? (i := 37) rfl)⟩
theorem lw_p25 : lw_okq (⟨"ThreadTown$Parser", "isSign", "(I)Z"⟩, 7) := ⟨⟨by decide +kernel, by decide +kernel⟩, lw_t1 (List.mem_of_getElem? (i := 178) rfl), lw_t5 (List.mem_of_getElem? (i := 40) rfl), lw_t5 (List.mem_of_getElem? (i := 41) rfl)⟩
theorem lw_p26 : lw_okq (⟨"ThreadTown$Parser", "isWord", "(I)Z"⟩, 7) := ⟨⟨by decide +kernel, by decide +kernel⟩, lw_t1 (List.mem_of_getElem? (i := 178) rfl), lw_t5 (List.mem_of_getElem? (i := 44) rfl), lw_t5 (List.mem_of_getElem? (i := 45) rfl)⟩
theorem lw_p27 : lw_okq (⟨"ThreadTown$Parser", "sum", "()LThreadTown$Sum;"⟩, 7) := ⟨⟨by decide +kernel, by decide +kernel⟩, lw_t1 (List.mem_of_getElem? (i := 178) rfl), lw_t5 (List.mem_of_getElem? (i := 48) rfl), lw_t5 (List.mem_of_getElem? (i := 49) rfl)⟩
theorem lw_p28 : lw_okq (⟨"ThreadTown$Parser", "part", "()LThreadTown$Sum;"⟩, 7) := ⟨⟨by decide +kernel, by decide +kernel⟩, lw_t1 (List.mem_of_getElem? (i := 178) rfl), lw_t5 (List.mem_of_getElem? (i := 52) rfl), lw_t5 (List.mem_of_getElem? (i := 53) rfl)⟩
theorem lw_p29 : lw_okq (⟨"ThreadTown$Parser", "unit", "()LThreadTown$Sum;"⟩, 7) := ⟨⟨by decide +kernel, by decide +kernel⟩, lw_t1 (List.mem_of_getElem? (i := 178) rfl), lw_t5 (List.mem_of_getElem? (i := 56) rfl), lw_t5 (List.mem_of_getElem? (i := 57) rfl)⟩
theorem lw_p30 : lw_okq (⟨"ThreadTown$Parser", "word", "(I)V"⟩, 7) := ⟨⟨by decide +kernel, by decide +kernel⟩, lw_t1 (List.mem_of_getElem? (i := 178) rfl), lw_t5 (List.mem_of_getElem? (i := 99) rfl), lw_t5 (List.mem_of_getElem? (i := 100) rfl)⟩
theorem lw_p31 : lw_okq (⟨"ThreadTown$Parser", "errand", "()V"⟩, 7) := ⟨⟨by decide +kernel, by decide +kernel⟩, lw_t1 (List.mem_of_getElem? (i := 178) rfl), lw_t5 (List.mem_of_getElem? (i := 104) rfl), lw_t5 (List.mem_of_getElem? (i := 105) rfl)⟩
def lw_privs_2 : List (MethodName × Nat) := [(⟨"ThreadTown$Parser", "tell", "(II)V"⟩, 7), (⟨"ThreadTown$Parser", "begins", "(II)V"⟩, 7), (⟨"ThreadTown$Parser", "name", "()Ljava/lang/String;"⟩, 7), (⟨"java/util/ArrayList", "add", "(Ljava/lang/Object;[Ljava/lang/Object;I)V"⟩, 3), (⟨"java/util/ArrayList", "grow", "()[Ljava/lang/Object;"⟩, 3), (⟨"java/util/ArrayList", "grow", "(I)[Ljava/lang/Object;"⟩, 3), (⟨"ThreadTown$Parser", "known", "()I"⟩, 7), (⟨"ThreadTown$Parser", "law", "()LThreadTown$Law;"⟩, 7), (⟨"ThreadTown$Parser", "sign", "(I)V"⟩, 7), (⟨"ThreadTown$Parser", "isSign", "(I)Z"⟩, 7), (⟨"ThreadTown$Parser", "isWord", "(I)Z"⟩, 7), (⟨"ThreadTown$Parser", "sum", "()LThreadTown$Sum;"⟩, 7), (⟨"ThreadTown$Parser", "part", "()LThreadTown$Sum;"⟩, 7), (⟨"ThreadTown$Parser", "unit", "()LThreadTown$Sum;"⟩, 7), (⟨"ThreadTown$Parser", "word", "(I)V"⟩, 7), (⟨"ThreadTown$Parser", "errand", "()V"⟩, 7)]
theorem lw_r2 : ∀ q ∈ lw_privs_2, lw_okq q := List.forall_mem_cons.mpr ⟨lw_p16, List.forall_mem_cons.mpr ⟨lw_p17, List.forall_mem_cons.mpr ⟨lw_p18, List.forall_mem_cons.mpr ⟨lw_p19, List.forall_mem_cons.mpr ⟨lw_p20, List.forall_mem_cons.mpr ⟨lw_p21, List.forall_mem_cons.mpr ⟨lw_p22, List.forall_mem_cons.mpr ⟨lw_p23, List.forall_mem_cons.mpr ⟨lw_p24, List.forall_mem_cons.mpr ⟨lw_p25, List.forall_mem_cons.mpr ⟨lw_p26, List.forall_mem_cons.mpr ⟨lw_p27, List.forall_mem_cons.mpr ⟨lw_p28, List.forall_mem_cons.mpr ⟨lw_p29, List.forall_mem_cons.mpr ⟨lw_p30, List.forall_mem_cons.mpr ⟨lw_p31, fun _ h => absurd h List.not_mem_nil⟩⟩⟩⟩⟩⟩⟩⟩⟩⟩⟩⟩⟩⟩⟩⟩
theorem lw_p32 : lw_okq (⟨"ThreadTown", "isMan", "(I)Z"⟩, 25) := ⟨⟨by decide +kernel, by decide +kernel⟩, lw_t1 (List.mem_of_getElem? (i := 40) rfl), lw_t5 (List.mem_of_getElem? (i := 120) rfl), lw_t5 (List.mem_of_getElem? (i := 121) rfl)⟩
theorem lw_p33 : lw_okq (⟨"ThreadTown", "men", "()I"⟩, 25) := ⟨⟨by decide +kernel, by decide +kernel⟩, lw_t1 (List.mem_of_getElem? (i := 40) rfl), lw_t5 (List.mem_of_getElem? (i := 124) rfl), lw_t5 (List.mem_of_getElem? (i := 125) rfl)⟩
theorem lw_p34 : lw_okq (⟨"ThreadTown", "keeps", "()V"⟩, 25) := ⟨⟨by decide +kernel, by decide +kernel⟩, lw_t1 (List.mem_of_getElem? (i := 40) rfl), lw_t5 (List.mem_of_getElem? (i := 187) rfl), lw_t5 (List.mem_of_getElem? (i := 188) rfl)⟩
theorem lw_p35 : lw_okq (⟨"ThreadTown", "areTwo", "(II)Z"⟩, 25) := ⟨⟨by decide +kernel, by decide +kernel⟩, lw_t1 (List.mem_of_getElem? (i := 40) rfl), lw_t5 (List.mem_of_getElem? (i := 235) rfl), lw_t5 (List.mem_of_getElem? (i := 236) rfl)⟩
theorem lw_p36 : lw_okq (⟨"ThreadTown", "laysWaits", "()I"⟩, 25) := ⟨⟨by decide +kernel, by decide +kernel⟩, lw_t1 (List.mem_of_getElem? (i := 40) rfl), lw_t6 (List.mem_of_getElem? (i := 11) rfl), lw_t6 (List.mem_of_getElem? (i := 12) rfl)⟩
theorem lw_p37 : lw_okq (⟨"ThreadTown", "leastCut", "()I"⟩, 25) := ⟨⟨by decide +kernel, by decide +kernel⟩, lw_t1 (List.mem_of_getElem? (i := 40) rfl), lw_t6 (List.mem_of_getElem? (i := 24) rfl), lw_t6 (List.mem_of_getElem? (i := 25) rfl)⟩
theorem lw_p38 : lw_okq (⟨"ThreadTown", "piecesOf", "(I)I"⟩, 25) := ⟨⟨by decide +kernel, by decide +kernel⟩, lw_t1 (List.mem_of_getElem? (i := 40) rfl), lw_t6 (List.mem_of_getElem? (i := 34) rfl), lw_t6 (List.mem_of_getElem? (i := 35) rfl)⟩
theorem lw_p39 : lw_okq (⟨"ThreadTown", "laysLeft", "(LThreadTown$Man;)V"⟩, 25) := ⟨⟨by decide +kernel, by decide +kernel⟩, lw_t1 (List.mem_of_getElem? (i := 40) rfl), lw_t6 (List.mem_of_getElem? (i := 42) rfl), lw_t6 (List.mem_of_getElem? (i := 43) rfl)⟩
theorem lw_p40 : lw_okq (⟨"ThreadTown", "wayFrom", "(LThreadTown$Man;II)I"⟩, 25) := ⟨⟨by decide +kernel, by decide +kernel⟩, lw_t1 (List.mem_of_getElem? (i := 40) rfl), lw_t6 (List.mem_of_getElem? (i := 50) rfl), lw_t6 (List.mem_of_getElem? (i := 51) rfl)⟩
theorem lw_p41 : lw_okq (⟨"ThreadTown", "overAll", "(I)I"⟩, 25) := ⟨⟨by decide +kernel, by decide +kernel⟩, lw_t1 (List.mem_of_getElem? (i := 40) rfl), lw_t6 (List.mem_of_getElem? (i := 75) rfl), lw_t6 (List.mem_of_getElem? (i := 76) rfl)⟩
theorem lw_p42 : lw_okq (⟨"ThreadTown", "isStreet", "(III)Z"⟩, 25) := ⟨⟨by decide +kernel, by decide +kernel⟩, lw_t1 (List.mem_of_getElem? (i := 40) rfl), lw_t6 (List.mem_of_getElem? (i := 83) rfl), lw_t6 (List.mem_of_getElem? (i := 84) rfl)⟩
theorem lw_p43 : lw_okq (⟨"ThreadTown", "runsDusk", "(I)V"⟩, 25) := ⟨⟨by decide +kernel, by decide +kernel⟩, lw_t1 (List.mem_of_getElem? (i := 40) rfl), lw_t6 (List.mem_of_getElem? (i := 93) rfl), lw_t6 (List.mem_of_getElem? (i := 94) rfl)⟩
theorem lw_p44 : lw_okq (⟨"ThreadTown", "windsAll", "(II)I"⟩, 25) := ⟨⟨by decide +kernel, by decide +kernel⟩, lw_t1 (List.mem_of_getElem? (i := 40) rfl), lw_t6 (List.mem_of_getElem? (i := 97) rfl), lw_t6 (List.mem_of_getElem? (i := 98) rfl)⟩
theorem lw_p45 : lw_okq (⟨"ThreadTown", "nextOf", "(I)I"⟩, 25) := ⟨⟨by decide +kernel, by decide +kernel⟩, lw_t1 (List.mem_of_getElem? (i := 40) rfl), lw_t6 (List.mem_of_getElem? (i := 124) rfl), lw_t6 (List.mem_of_getElem? (i := 125) rfl)⟩
theorem lw_p46 : lw_okq (⟨"ThreadTown", "around", "(I)I"⟩, 25) := ⟨⟨by decide +kernel, by decide +kernel⟩, lw_t1 (List.mem_of_getElem? (i := 40) rfl), lw_t6 (List.mem_of_getElem? (i := 156) rfl), lw_t6 (List.mem_of_getElem? (i := 157) rfl)⟩
theorem lw_p47 : lw_okq (⟨"ThreadTown", "comesTo", "(III)Z"⟩, 25) := ⟨⟨by decide +kernel, by decide +kernel⟩, lw_t1 (List.mem_of_getElem? (i := 40) rfl), lw_t6 (List.mem_of_getElem? (i := 169) rfl), lw_t6 (List.mem_of_getElem? (i := 170) rfl)⟩
def lw_privs_3 : List (MethodName × Nat) := [(⟨"ThreadTown", "isMan", "(I)Z"⟩, 25), (⟨"ThreadTown", "men", "()I"⟩, 25), (⟨"ThreadTown", "keeps", "()V"⟩, 25), (⟨"ThreadTown", "areTwo", "(II)Z"⟩, 25), (⟨"ThreadTown", "laysWaits", "()I"⟩, 25), (⟨"ThreadTown", "leastCut", "()I"⟩, 25), (⟨"ThreadTown", "piecesOf", "(I)I"⟩, 25), (⟨"ThreadTown", "laysLeft", "(LThreadTown$Man;)V"⟩, 25), (⟨"ThreadTown", "wayFrom", "(LThreadTown$Man;II)I"⟩, 25), (⟨"ThreadTown", "overAll", "(I)I"⟩, 25), (⟨"ThreadTown", "isStreet", "(III)Z"⟩, 25), (⟨"ThreadTown", "runsDusk", "(I)V"⟩, 25), (⟨"ThreadTown", "windsAll", "(II)I"⟩, 25), (⟨"ThreadTown", "nextOf", "(I)I"⟩, 25), (⟨"ThreadTown", "around", "(I)I"⟩, 25), (⟨"ThreadTown", "comesTo", "(III)Z"⟩, 25)]
theorem lw_r3 : ∀ q ∈ lw_privs_3, lw_okq q := List.forall_mem_cons.mpr ⟨lw_p32, List.forall_mem_cons.mpr ⟨lw_p33, List.forall_mem_cons.mpr ⟨lw_p34, List.forall_mem_cons.mpr ⟨lw_p35, List.forall_mem_cons.mpr ⟨lw_p36, List.forall_mem_cons.mpr ⟨lw_p37, List.forall_mem_cons.mpr ⟨lw_p38, List.forall_mem_cons.mpr ⟨lw_p39, List.forall_mem_cons.mpr ⟨lw_p40, List.forall_mem_cons.mpr ⟨lw_p41, List.forall_mem_cons.mpr ⟨lw_p42, List.forall_mem_cons.mpr ⟨lw_p43, List.forall_mem_cons.mpr ⟨lw_p44, List.forall_mem_cons.mpr ⟨lw_p45, List.forall_mem_cons.mpr ⟨lw_p46, List.forall_mem_cons.mpr ⟨lw_p47, fun _ h => absurd h List.not_mem_nil⟩⟩⟩⟩⟩⟩⟩⟩⟩⟩⟩⟩⟩⟩⟩⟩
theorem lw_p48 : lw_okq (⟨"ThreadTown", "laysLegs", "(II)V"⟩, 25) := ⟨⟨by decide +kernel, by decide +kernel⟩, lw_t1 (List.mem_of_getElem? (i := 40) rfl), lw_t6 (List.mem_of_getElem? (i := 191) rfl), lw_t6 (List.mem_of_getElem? (i := 192) rfl)⟩
theorem lw_p49 : lw_okq (⟨"ThreadTown", "goesLeg", "([IIIII)V"⟩, 25) := ⟨⟨by decide +kernel, by decide +kernel⟩, lw_t1 (List.mem_of_getElem? (i := 40) rfl), lw_t6 (List.mem_of_getElem? (i := 196) rfl), lw_t6 (List.mem_of_getElem? (i := 197) rfl)⟩
theorem lw_p50 : lw_okq (⟨"ThreadTown", "lieTogether", "(IIII)I"⟩, 25) := ⟨⟨by decide +kernel, by decide +kernel⟩, lw_t1 (List.mem_of_getElem? (i := 40) rfl), lw_t6 (List.mem_of_getElem? (i := 200) rfl), lw_t6 (List.mem_of_getElem? (i := 201) rfl)⟩
theorem lw_p51 : lw_okq (⟨"ThreadTown", "isSo", "(II)Z"⟩, 25) := ⟨⟨by decide +kernel, by decide +kernel⟩, lw_t1 (List.mem_of_getElem? (i := 40) rfl), lw_t6 (List.mem_of_getElem? (i := 216) rfl), lw_t6 (List.mem_of_getElem? (i := 217) rfl)⟩
theorem lw_p52 : lw_okq (⟨"ThreadTownModel", "plain0", "(I)V"⟩, 75) := ⟨⟨by decide +kernel, by decide +kernel⟩, lw_t6 (List.mem_of_getElem? (i := 237) rfl), lw_t7 (List.mem_of_getElem? (i := 4) rfl), lw_t7 (List.mem_of_getElem? (i := 5) rfl)⟩
theorem lw_p53 : lw_okq (⟨"ThreadTownModel", "begins", "()V"⟩, 75) := ⟨⟨by decide +kernel, by decide +kernel⟩, lw_t6 (List.mem_of_getElem? (i := 237) rfl), lw_t7 (List.mem_of_getElem? (i := 15) rfl), lw_t7 (List.mem_of_getElem? (i := 16) rfl)⟩
theorem lw_p54 : lw_okq (⟨"ThreadTownModel", "keepsRow", "()V"⟩, 75) := ⟨⟨by decide +kernel, by decide +kernel⟩, lw_t6 (List.mem_of_getElem? (i := 237) rfl), lw_t7 (List.mem_of_getElem? (i := 19) rfl), lw_t7 (List.mem_of_getElem? (i := 20) rfl)⟩
theorem lw_p55 : lw_okq (⟨"ThreadTownModel", "put", "(I)V"⟩, 75) := ⟨⟨by decide +kernel, by decide +kernel⟩, lw_t6 (List.mem_of_getElem? (i := 237) rfl), lw_t8 (List.mem_of_getElem? (i := 13) rfl), lw_t8 (List.mem_of_getElem? (i := 14) rfl)⟩
theorem lw_p56 : lw_okq (⟨"ThreadTownModel", "cut0", "()V"⟩, 75) := ⟨⟨by decide +kernel, by decide +kernel⟩, lw_t6 (List.mem_of_getElem? (i := 237) rfl), lw_t8 (List.mem_of_getElem? (i := 25) rfl), lw_t8 (List.mem_of_getElem? (i := 26) rfl)⟩
theorem lw_p57 : lw_okq (⟨"ThreadTownModel", "byteAt", "(I)I"⟩, 75) := ⟨⟨by decide +kernel, by decide +kernel⟩, lw_t6 (List.mem_of_getElem? (i := 237) rfl), lw_t8 (List.mem_of_getElem? (i := 29) rfl), lw_t8 (List.mem_of_getElem? (i := 30) rfl)⟩
theorem lw_p58 : lw_okq (⟨"ThreadTownModel", "token", "(IIIJ)V"⟩, 75) := ⟨⟨by decide +kernel, by decide +kernel⟩, lw_t6 (List.mem_of_getElem? (i := 237) rfl), lw_t8 (List.mem_of_getElem? (i := 33) rfl), lw_t8 (List.mem_of_getElem? (i := 34) rfl)⟩
theorem lw_p59 : lw_okq (⟨"ThreadTownModel", "sign", "(III)I"⟩, 75) := ⟨⟨by decide +kernel, by decide +kernel⟩, lw_t6 (List.mem_of_getElem? (i := 237) rfl), lw_t8 (List.mem_of_getElem? (i := 43) rfl), lw_t8 (List.mem_of_getElem? (i := 44) rfl)⟩
theorem lw_p60 : lw_okq (⟨"ThreadTownModel", "is", "(I)Z"⟩, 75) := ⟨⟨by decide +kernel, by decide +kernel⟩, lw_t6 (List.mem_of_getElem? (i := 237) rfl), lw_t8 (List.mem_of_getElem? (i := 47) rfl), lw_t8 (List.mem_of_getElem? (i := 48) rfl)⟩
theorem lw_p61 : lw_okq (⟨"ThreadTownModel", "tell0", "()V"⟩, 75) := ⟨⟨by decide +kernel, by decide +kernel⟩, lw_t6 (List.mem_of_getElem? (i := 237) rfl), lw_t8 (List.mem_of_getElem? (i := 51) rfl), lw_t8 (List.mem_of_getElem? (i := 52) rfl)⟩
theorem lw_p62 : lw_okq (⟨"ThreadTownModel", "goesOn", "()V"⟩, 75) := ⟨⟨by decide +kernel, by decide +kernel⟩, lw_t6 (List.mem_of_getElem? (i := 237) rfl), lw_t8 (List.mem_of_getElem? (i := 55) rfl), lw_t8 (List.mem_of_getElem? (i := 56) rfl)⟩
theorem lw_p63 : lw_okq (⟨"ThreadTownModel", "fail", "(I)V"⟩, 75) := ⟨⟨by decide +kernel, by decide +kernel⟩, lw_t6 (List.mem_of_getElem? (i := 237) rfl), lw_t8 (List.mem_of_getElem? (i := 59) rfl), lw_t8 (List.mem_of_getElem? (i := 60) rfl)⟩
def lw_privs_4 : List (MethodName × Nat) := [(⟨"ThreadTown", "laysLegs", "(II)V"⟩, 25), (⟨"ThreadTown", "goesLeg", "([IIIII)V"⟩, 25), (⟨"ThreadTown", "lieTogether", "(IIII)I"⟩, 25), (⟨"ThreadTown", "isSo", "(II)Z"⟩, 25), (⟨"ThreadTownModel", "plain0", "(I)V"⟩, 75), (⟨"ThreadTownModel", "begins", "()V"⟩, 75), (⟨"ThreadTownModel", "keepsRow", "()V"⟩, 75), (⟨"ThreadTownModel", "put", "(I)V"⟩, 75), (⟨"ThreadTownModel", "cut0", "()V"⟩, 75), (⟨"ThreadTownModel", "byteAt", "(I)I"⟩, 75), (⟨"ThreadTownModel", "token", "(IIIJ)V"⟩, 75), (⟨"ThreadTownModel", "sign", "(III)I"⟩, 75), (⟨"ThreadTownModel", "is", "(I)Z"⟩, 75), (⟨"ThreadTownModel", "tell0", "()V"⟩, 75), (⟨"ThreadTownModel", "goesOn", "()V"⟩, 75), (⟨"ThreadTownModel", "fail", "(I)V"⟩, 75)]
theorem lw_r4 : ∀ q ∈ lw_privs_4, lw_okq q := List.forall_mem_cons.mpr ⟨lw_p48, List.forall_mem_cons.mpr ⟨lw_p49, List.forall_mem_cons.mpr ⟨lw_p50, List.forall_mem_cons.mpr ⟨lw_p51, List.forall_mem_cons.mpr ⟨lw_p52, List.forall_mem_cons.mpr ⟨lw_p53, List.forall_mem_cons.mpr ⟨lw_p54, List.forall_mem_cons.mpr ⟨lw_p55, List.forall_mem_cons.mpr ⟨lw_p56, List.forall_mem_cons.mpr ⟨lw_p57, List.forall_mem_cons.mpr ⟨lw_p58, List.forall_mem_cons.mpr ⟨lw_p59, List.forall_mem_cons.mpr ⟨lw_p60, List.forall_mem_cons.mpr ⟨lw_p61, List.forall_mem_cons.mpr ⟨lw_p62, List.forall_mem_cons.mpr ⟨lw_p63, fun _ h => absurd h List.not_mem_nil⟩⟩⟩⟩⟩⟩⟩⟩⟩⟩⟩⟩⟩⟩⟩⟩
theorem lw_p64 : lw_okq (⟨"ThreadTownModel", "bounded", "(II)I"⟩, 75) := ⟨⟨by decide +kernel, by decide +kernel⟩, lw_t6 (List.mem_of_getElem? (i := 237) rfl), lw_t8 (List.mem_of_getElem? (i := 63) rfl), lw_t8 (List.mem_of_getElem? (i := 64) rfl)⟩
theorem lw_p65 : lw_okq (⟨"ThreadTownModel", "wrong", "(II)V"⟩, 75) := ⟨⟨by decide +kernel, by decide +kernel⟩, lw_t6 (List.mem_of_getElem? (i := 237) rfl), lw_t8 (List.mem_of_getElem? (i := 67) rfl), lw_t8 (List.mem_of_getElem? (i := 68) rfl)⟩
theorem lw_p66 : lw_okq (⟨"ThreadTownModel", "must", "(I)V"⟩, 75) := ⟨⟨by decide +kernel, by decide +kernel⟩, lw_t6 (List.mem_of_getElem? (i := 237) rfl), lw_t8 (List.mem_of_getElem? (i := 71) rfl), lw_t8 (List.mem_of_getElem? (i := 72) rfl)⟩
theorem lw_p67 : lw_okq (⟨"ThreadTownModel", "roomFor", "(II)V"⟩, 75) := ⟨⟨by decide +kernel, by decide +kernel⟩, lw_t6 (List.mem_of_getElem? (i := 237) rfl), lw_t8 (List.mem_of_getElem? (i := 75) rfl), lw_t8 (List.mem_of_getElem? (i := 76) rfl)⟩
theorem lw_p68 : lw_okq (⟨"ThreadTownModel", "tellMan", "()V"⟩, 75) := ⟨⟨by decide +kernel, by decide +kernel⟩, lw_t6 (List.mem_of_getElem? (i := 237) rfl), lw_t8 (List.mem_of_getElem? (i := 79) rfl), lw_t8 (List.mem_of_getElem? (i := 80) rfl)⟩
theorem lw_p69 : lw_okq (⟨"ThreadTownModel", "manAt", "(I)I"⟩, 75) := ⟨⟨by decide +kernel, by decide +kernel⟩, lw_t6 (List.mem_of_getElem? (i := 237) rfl), lw_t8 (List.mem_of_getElem? (i := 83) rfl), lw_t8 (List.mem_of_getElem? (i := 84) rfl)⟩
theorem lw_p70 : lw_okq (⟨"ThreadTownModel", "notesCorner", "(III)V"⟩, 75) := ⟨⟨by decide +kernel, by decide +kernel⟩, lw_t6 (List.mem_of_getElem? (i := 237) rfl), lw_t8 (List.mem_of_getElem? (i := 87) rfl), lw_t8 (List.mem_of_getElem? (i := 88) rfl)⟩
theorem lw_p71 : lw_okq (⟨"ThreadTownModel", "known", "()I"⟩, 75) := ⟨⟨by decide +kernel, by decide +kernel⟩, lw_t6 (List.mem_of_getElem? (i := 237) rfl), lw_t8 (List.mem_of_getElem? (i := 91) rfl), lw_t8 (List.mem_of_getElem? (i := 92) rfl)⟩
theorem lw_p72 : lw_okq (⟨"ThreadTownModel", "tellLaw", "(I)V"⟩, 75) := ⟨⟨by decide +kernel, by decide +kernel⟩, lw_t6 (List.mem_of_getElem? (i := 237) rfl), lw_t8 (List.mem_of_getElem? (i := 95) rfl), lw_t8 (List.mem_of_getElem? (i := 96) rfl)⟩
theorem lw_p73 : lw_okq (⟨"ThreadTownModel", "expression", "()V"⟩, 75) := ⟨⟨by decide +kernel, by decide +kernel⟩, lw_t6 (List.mem_of_getElem? (i := 237) rfl), lw_t8 (List.mem_of_getElem? (i := 99) rfl), lw_t8 (List.mem_of_getElem? (i := 100) rfl)⟩
theorem lw_p74 : lw_okq (⟨"ThreadTownModel", "unit", "()V"⟩, 75) := ⟨⟨by decide +kernel, by decide +kernel⟩, lw_t6 (List.mem_of_getElem? (i := 237) rfl), lw_t8 (List.mem_of_getElem? (i := 103) rfl), lw_t8 (List.mem_of_getElem? (i := 104) rfl)⟩
theorem lw_p75 : lw_okq (⟨"ThreadTownModel", "emit", "(II)V"⟩, 75) := ⟨⟨by decide +kernel, by decide +kernel⟩, lw_t6 (List.mem_of_getElem? (i := 237) rfl), lw_t8 (List.mem_of_getElem? (i := 107) rfl), lw_t8 (List.mem_of_getElem? (i := 108) rfl)⟩
theorem lw_p76 : lw_okq (⟨"ThreadTownModel", "comesOut", "(Z)V"⟩, 75) := ⟨⟨by decide +kernel, by decide +kernel⟩, lw_t6 (List.mem_of_getElem? (i := 237) rfl), lw_t8 (List.mem_of_getElem? (i := 111) rfl), lw_t8 (List.mem_of_getElem? (i := 112) rfl)⟩
theorem lw_p77 : lw_okq (⟨"ThreadTownModel", "term", "()V"⟩, 75) := ⟨⟨by decide +kernel, by decide +kernel⟩, lw_t6 (List.mem_of_getElem? (i := 237) rfl), lw_t8 (List.mem_of_getElem? (i := 115) rfl), lw_t8 (List.mem_of_getElem? (i := 116) rfl)⟩
theorem lw_p78 : lw_okq (⟨"ThreadTownModel", "tellErrand", "()V"⟩, 75) := ⟨⟨by decide +kernel, by decide +kernel⟩, lw_t6 (List.mem_of_getElem? (i := 237) rfl), lw_t8 (List.mem_of_getElem? (i := 119) rfl), lw_t8 (List.mem_of_getElem? (i := 120) rfl)⟩
theorem lw_p79 : lw_okq (⟨"ThreadTownModel", "tellPillar", "()V"⟩, 75) := ⟨⟨by decide +kernel, by decide +kernel⟩, lw_t6 (List.mem_of_getElem? (i := 237) rfl), lw_t8 (List.mem_of_getElem? (i := 123) rfl), lw_t8 (List.mem_of_getElem? (i := 124) rfl)⟩
def lw_privs_5 : List (MethodName × Nat) := [(⟨"ThreadTownModel", "bounded", "(II)I"⟩, 75), (⟨"ThreadTownModel", "wrong", "(II)V"⟩, 75), (⟨"ThreadTownModel", "must", "(I)V"⟩, 75), (⟨"ThreadTownModel", "roomFor", "(II)V"⟩, 75), (⟨"ThreadTownModel", "tellMan", "()V"⟩, 75), (⟨"ThreadTownModel", "manAt", "(I)I"⟩, 75), (⟨"ThreadTownModel", "notesCorner", "(III)V"⟩, 75), (⟨"ThreadTownModel", "known", "()I"⟩, 75), (⟨"ThreadTownModel", "tellLaw", "(I)V"⟩, 75), (⟨"ThreadTownModel", "expression", "()V"⟩, 75), (⟨"ThreadTownModel", "unit", "()V"⟩, 75), (⟨"ThreadTownModel", "emit", "(II)V"⟩, 75), (⟨"ThreadTownModel", "comesOut", "(Z)V"⟩, 75), (⟨"ThreadTownModel", "term", "()V"⟩, 75), (⟨"ThreadTownModel", "tellErrand", "()V"⟩, 75), (⟨"ThreadTownModel", "tellPillar", "()V"⟩, 75)]
theorem lw_r5 : ∀ q ∈ lw_privs_5, lw_okq q := List.forall_mem_cons.mpr ⟨lw_p64, List.forall_mem_cons.mpr ⟨lw_p65, List.forall_mem_cons.mpr ⟨lw_p66, List.forall_mem_cons.mpr ⟨lw_p67, List.forall_mem_cons.mpr ⟨lw_p68, List.forall_mem_cons.mpr ⟨lw_p69, List.forall_mem_cons.mpr ⟨lw_p70, List.forall_mem_cons.mpr ⟨lw_p71, List.forall_mem_cons.mpr ⟨lw_p72, List.forall_mem_cons.mpr ⟨lw_p73, List.forall_mem_cons.mpr ⟨lw_p74, List.forall_mem_cons.mpr ⟨lw_p75, List.forall_mem_cons.mpr ⟨lw_p76, List.forall_mem_cons.mpr ⟨lw_p77, List.forall_mem_cons.mpr ⟨lw_p78, List.forall_mem_cons.mpr ⟨lw_p79, fun _ h => absurd h List.not_mem_nil⟩⟩⟩⟩⟩⟩⟩⟩⟩⟩⟩⟩⟩⟩⟩⟩
theorem lw_p80 : lw_okq (⟨"ThreadTownModel", "isMan", "(I)Z"⟩, 75) := ⟨⟨by decide +kernel, by decide +kernel⟩, lw_t6 (List.mem_of_getElem? (i := 237) rfl), lw_t8 (List.mem_of_getElem? (i := 135) rfl), lw_t8 (List.mem_of_getElem? (i := 136) rfl)⟩
theorem lw_p81 : lw_okq (⟨"ThreadTownModel", "copies", "()V"⟩, 75) := ⟨⟨by decide +kernel, by decide +kernel⟩, lw_t6 (List.mem_of_getElem? (i := 237) rfl), lw_t8 (List.mem_of_getElem? (i := 142) rfl), lw_t8 (List.mem_of_getElem? (i := 143) rfl)⟩
theorem lw_p82 : lw_okq (⟨"ThreadTownModel", "leftOf", "(I)I"⟩, 75) := ⟨⟨by decide +kernel, by decide +kernel⟩, lw_t6 (List.mem_of_getElem? (i := 237) rfl), lw_t8 (List.mem_of_getElem? (i := 146) rfl), lw_t8 (List.mem_of_getElem? (i := 147) rfl)⟩
theorem lw_p83 : lw_okq (⟨"ThreadTownModel", "longOf", "(I)I"⟩, 75) := ⟨⟨by decide +kernel, by decide +kernel⟩, lw_t6 (List.mem_of_getElem? (i := 237) rfl), lw_t8 (List.mem_of_getElem? (i := 150) rfl), lw_t8 (List.mem_of_getElem? (i := 151) rfl)⟩
theorem lw_p84 : lw_okq (⟨"ThreadTownModel", "tellsBy", "(I)I"⟩, 75) := ⟨⟨by decide +kernel, by decide +kernel⟩, lw_t6 (List.mem_of_getElem? (i := 237) rfl), lw_t8 (List.mem_of_getElem? (i := 154) rfl), lw_t8 (List.mem_of_getElem? (i := 155) rfl)⟩
theorem lw_p85 : lw_okq (⟨"ThreadTownModel", "termOf", "(II)I"⟩, 75) := ⟨⟨by decide +kernel, by decide +kernel⟩, lw_t6 (List.mem_of_getElem? (i := 237) rfl), lw_t8 (List.mem_of_getElem? (i := 158) rfl), lw_t8 (List.mem_of_getElem? (i := 159) rfl)⟩
theorem lw_p86 : lw_okq (⟨"ThreadTownModel", "goesOf", "(I)I"⟩, 75) := ⟨⟨by decide +kernel, by decide +kernel⟩, lw_t6 (List.mem_of_getElem? (i := 237) rfl), lw_t8 (List.mem_of_getElem? (i := 165) rfl), lw_t8 (List.mem_of_getElem? (i := 166) rfl)⟩
theorem lw_p87 : lw_okq (⟨"ThreadTownModel", "others", "(IIZ)I"⟩, 75) := ⟨⟨by decide +kernel, by decide +kernel⟩, lw_t6 (List.mem_of_getElem? (i := 237) rfl), lw_t8 (List.mem_of_getElem? (i := 180) rfl), lw_t8 (List.mem_of_getElem? (i := 181) rfl)⟩
theorem lw_p88 : lw_okq (⟨"ThreadTownModel", "steps", "(II)Z"⟩, 75) := ⟨⟨by decide +kernel, by decide +kernel⟩, lw_t6 (List.mem_of_getElem? (i := 237) rfl), lw_t8 (List.mem_of_getElem? (i := 188) rfl), lw_t8 (List.mem_of_getElem? (i := 189) rfl)⟩
theorem lw_p89 : lw_okq (⟨"ThreadTownModel", "isCorner", "(II)Z"⟩, 75) := ⟨⟨by decide +kernel, by decide +kernel⟩, lw_t6 (List.mem_of_getElem? (i := 237) rfl), lw_t8 (List.mem_of_getElem? (i := 198) rfl), lw_t8 (List.mem_of_getElem? (i := 199) rfl)⟩
theorem lw_p90 : lw_okq (⟨"ThreadTownModel", "keeps", "()V"⟩, 75) := ⟨⟨by decide +kernel, by decide +kernel⟩, lw_t6 (List.mem_of_getElem? (i := 237) rfl), lw_t8 (List.mem_of_getElem? (i := 205) rfl), lw_t8 (List.mem_of_getElem? (i := 206) rfl)⟩
theorem lw_p91 : lw_okq (⟨"ThreadTownModel", "winds", "(I)Z"⟩, 75) := ⟨⟨by decide +kernel, by decide +kernel⟩, lw_t6 (List.mem_of_getElem? (i := 237) rfl), lw_t8 (List.mem_of_getElem? (i := 214) rfl), lw_t8 (List.mem_of_getElem? (i := 215) rfl)⟩
theorem lw_p92 : lw_okq (⟨"ThreadTownModel", "minuteGoes", "()V"⟩, 75) := ⟨⟨by decide +kernel, by decide +kernel⟩, lw_t6 (List.mem_of_getElem? (i := 237) rfl), lw_t8 (List.mem_of_getElem? (i := 230) rfl), lw_t8 (List.mem_of_getElem? (i := 231) rfl)⟩
theorem lw_p93 : lw_okq (⟨"ThreadTownModel", "areTwo", "(II)Z"⟩, 75) := ⟨⟨by decide +kernel, by decide +kernel⟩, lw_t6 (List.mem_of_getElem? (i := 237) rfl), lw_t9 (List.mem_of_getElem? (i := 2) rfl), lw_t9 (List.mem_of_getElem? (i := 3) rfl)⟩
theorem lw_p94 : lw_okq (⟨"ThreadTownModel", "overOf", "(II)I"⟩, 75) := ⟨⟨by decide +kernel, by decide +kernel⟩, lw_t6 (List.mem_of_getElem? (i := 237) rfl), lw_t9 (List.mem_of_getElem? (i := 6) rfl), lw_t9 (List.mem_of_getElem? (i := 7) rfl)⟩
theorem lw_p95 : lw_okq (⟨"ThreadTownModel", "fillsWaits", "()I"⟩, 75) := ⟨⟨by decide +kernel, by decide +kernel⟩, lw_t6 (List.mem_of_getElem? (i := 237) rfl), lw_t9 (List.mem_of_getElem? (i := 14) rfl), lw_t9 (List.mem_of_getElem? (i := 15) rfl)⟩
def lw_privs_6 : List (MethodName × Nat) := [(⟨"ThreadTownModel", "isMan", "(I)Z"⟩, 75), (⟨"ThreadTownModel", "copies", "()V"⟩, 75), (⟨"ThreadTownModel", "leftOf", "(I)I"⟩, 75), (⟨"ThreadTownModel", "longOf", "(I)I"⟩, 75), (⟨"ThreadTownModel", "tellsBy", "(I)I"⟩, 75), (⟨"ThreadTownModel", "termOf", "(II)I"⟩, 75), (⟨"ThreadTownModel", "goesOf", "(I)I"⟩, 75), (⟨"ThreadTownModel", "others", "(IIZ)I"⟩, 75), (⟨"ThreadTownModel", "steps", "(II)Z"⟩, 75), (⟨"ThreadTownModel", "isCorner", "(II)Z"⟩, 75), (⟨"ThreadTownModel", "keeps", "()V"⟩, 75), (⟨"ThreadTownModel", "winds", "(I)Z"⟩, 75), (⟨"ThreadTownModel", "minuteGoes", "()V"⟩, 75), (⟨"ThreadTownModel", "areTwo", "(II)Z"⟩, 75), (⟨"ThreadTownModel", "overOf", "(II)I"⟩, 75), (⟨"ThreadTownModel", "fillsWaits", "()I"⟩, 75)]
theorem lw_r6 : ∀ q ∈ lw_privs_6, lw_okq q := List.forall_mem_cons.mpr ⟨lw_p80, List.forall_mem_cons.mpr ⟨lw_p81, List.forall_mem_cons.mpr ⟨lw_p82, List.forall_mem_cons.mpr ⟨lw_p83, List.forall_mem_cons.mpr ⟨lw_p84, List.forall_mem_cons.mpr ⟨lw_p85, List.forall_mem_cons.mpr ⟨lw_p86, List.forall_mem_cons.mpr ⟨lw_p87, List.forall_mem_cons.mpr ⟨lw_p88, List.forall_mem_cons.mpr ⟨lw_p89, List.forall_mem_cons.mpr ⟨lw_p90, List.forall_mem_cons.mpr ⟨lw_p91, List.forall_mem_cons.mpr ⟨lw_p92, List.forall_mem_cons.mpr ⟨lw_p93, List.forall_mem_cons.mpr ⟨lw_p94, List.forall_mem_cons.mpr ⟨lw_p95, fun _ h => absurd h List.not_mem_nil⟩⟩⟩⟩⟩⟩⟩⟩⟩⟩⟩⟩⟩⟩⟩⟩
theorem lw_p96 : lw_okq (⟨"ThreadTownModel", "fillsOrders", "()V"⟩, 75) := ⟨⟨by decide +kernel, by decide +kernel⟩, lw_t6 (List.mem_of_getElem? (i := 237) rfl), lw_t9 (List.mem_of_getElem? (i := 22) rfl), lw_t9 (List.mem_of_getElem? (i := 23) rfl)⟩
theorem lw_p97 : lw_okq (⟨"ThreadTownModel", "piecesOf", "(I)I"⟩, 75) := ⟨⟨by decide +kernel, by decide +kernel⟩, lw_t6 (List.mem_of_getElem? (i := 237) rfl), lw_t9 (List.mem_of_getElem? (i := 37) rfl), lw_t9 (List.mem_of_getElem? (i := 38) rfl)⟩
theorem lw_p98 : lw_okq (⟨"ThreadTownModel", "wayOf", "(I)I"⟩, 75) := ⟨⟨by decide +kernel, by decide +kernel⟩, lw_t6 (List.mem_of_getElem? (i := 237) rfl), lw_t9 (List.mem_of_getElem? (i := 45) rfl), lw_t9 (List.mem_of_getElem? (i := 46) rfl)⟩
theorem lw_p99 : lw_okq (⟨"ThreadTownModel", "wayFrom", "(III)I"⟩, 75) := ⟨⟨by decide +kernel, by decide +kernel⟩, lw_t6 (List.mem_of_getElem? (i := 237) rfl), lw_t9 (List.mem_of_getElem? (i := 49) rfl), lw_t9 (List.mem_of_getElem? (i := 50) rfl)⟩
theorem lw_p100 : lw_okq (⟨"ThreadTownModel", "nextOrder", "(I)Z"⟩, 75) := ⟨⟨by decide +kernel, by decide +kernel⟩, lw_t6 (List.mem_of_getElem? (i := 237) rfl), lw_t9 (List.mem_of_getElem? (i := 53) rfl), lw_t9 (List.mem_of_getElem? (i := 54) rfl)⟩
theorem lw_p101 : lw_okq (⟨"ThreadTownModel", "turnsOf", "(II)I"⟩, 75) := ⟨⟨by decide +kernel, by decide +kernel⟩, lw_t6 (List.mem_of_getElem? (i := 237) rfl), lw_t9 (List.mem_of_getElem? (i := 69) rfl), lw_t9 (List.mem_of_getElem? (i := 70) rfl)⟩
theorem lw_p102 : lw_okq (⟨"ThreadTownModel", "overAll", "(I)I"⟩, 75) := ⟨⟨by decide +kernel, by decide +kernel⟩, lw_t6 (List.mem_of_getElem? (i := 237) rfl), lw_t9 (List.mem_of_getElem? (i := 85) rfl), lw_t9 (List.mem_of_getElem? (i := 86) rfl)⟩
theorem lw_p103 : lw_okq (⟨"ThreadTownModel", "isStreet", "(III)Z"⟩, 75) := ⟨⟨by decide +kernel, by decide +kernel⟩, lw_t6 (List.mem_of_getElem? (i := 237) rfl), lw_t9 (List.mem_of_getElem? (i := 101) rfl), lw_t9 (List.mem_of_getElem? (i := 102) rfl)⟩
theorem lw_p104 : lw_okq (⟨"ThreadTownModel", "manyOn", "(I)I"⟩, 75) := ⟨⟨by decide +kernel, by decide +kernel⟩, lw_t6 (List.mem_of_getElem? (i := 237) rfl), lw_t9 (List.mem_of_getElem? (i := 105) rfl), lw_t9 (List.mem_of_getElem? (i := 106) rfl)⟩
theorem lw_p105 : lw_okq (⟨"ThreadTownModel", "whoseAt", "(II)I"⟩, 75) := ⟨⟨by decide +kernel, by decide +kernel⟩, lw_t6 (List.mem_of_getElem? (i := 237) rfl), lw_t9 (List.mem_of_getElem? (i := 109) rfl), lw_t9 (List.mem_of_getElem? (i := 110) rfl)⟩
theorem lw_p106 : lw_okq (⟨"ThreadTownModel", "topOf", "(I)I"⟩, 75) := ⟨⟨by decide +kernel, by decide +kernel⟩, lw_t6 (List.mem_of_getElem? (i := 237) rfl), lw_t9 (List.mem_of_getElem? (i := 117) rfl), lw_t9 (List.mem_of_getElem? (i := 118) rfl)⟩
theorem lw_p107 : lw_okq (⟨"ThreadTownModel", "duskBy", "(I)V"⟩, 75) := ⟨⟨by decide +kernel, by decide +kernel⟩, lw_t6 (List.mem_of_getElem? (i := 237) rfl), lw_t9 (List.mem_of_getElem? (i := 133) rfl), lw_t9 (List.mem_of_getElem? (i := 134) rfl)⟩
theorem lw_p108 : lw_okq (⟨"ThreadTownModel", "knowsNow", "(I)I"⟩, 75) := ⟨⟨by decide +kernel, by decide +kernel⟩, lw_t6 (List.mem_of_getElem? (i := 237) rfl), lw_t9 (List.mem_of_getElem? (i := 145) rfl), lw_t9 (List.mem_of_getElem? (i := 146) rfl)⟩
theorem lw_p109 : lw_okq (⟨"ThreadTownModel", "linkedTo", "(I)I"⟩, 75) := ⟨⟨by decide +kernel, by decide +kernel⟩, lw_t6 (List.mem_of_getElem? (i := 237) rfl), lw_t9 (List.mem_of_getElem? (i := 153) rfl), lw_t9 (List.mem_of_getElem? (i := 154) rfl)⟩
theorem lw_p110 : lw_okq (⟨"ThreadTownModel", "comesTo", "(III)Z"⟩, 75) := ⟨⟨by decide +kernel, by decide +kernel⟩, lw_t6 (List.mem_of_getElem? (i := 237) rfl), lw_t9 (List.mem_of_getElem? (i := 165) rfl), lw_t9 (List.mem_of_getElem? (i := 166) rfl)⟩
theorem lw_p111 : lw_okq (⟨"ThreadTownModel", "walks", "(II)V"⟩, 75) := ⟨⟨by decide +kernel, by decide +kernel⟩, lw_t6 (List.mem_of_getElem? (i := 237) rfl), lw_t9 (List.mem_of_getElem? (i := 173) rfl), lw_t9 (List.mem_of_getElem? (i := 174) rfl)⟩
def lw_privs_7 : List (MethodName × Nat) := [(⟨"ThreadTownModel", "fillsOrders", "()V"⟩, 75), (⟨"ThreadTownModel", "piecesOf", "(I)I"⟩, 75), (⟨"ThreadTownModel", "wayOf", "(I)I"⟩, 75), (⟨"ThreadTownModel", "wayFrom", "(III)I"⟩, 75), (⟨"ThreadTownModel", "nextOrder", "(I)Z"⟩, 75), (⟨"ThreadTownModel", "turnsOf", "(II)I"⟩, 75), (⟨"ThreadTownModel", "overAll", "(I)I"⟩, 75), (⟨"ThreadTownModel", "isStreet", "(III)Z"⟩, 75), (⟨"ThreadTownModel", "manyOn", "(I)I"⟩, 75), (⟨"ThreadTownModel", "whoseAt", "(II)I"⟩, 75), (⟨"ThreadTownModel", "topOf", "(I)I"⟩, 75), (⟨"ThreadTownModel", "duskBy", "(I)V"⟩, 75), (⟨"ThreadTownModel", "knowsNow", "(I)I"⟩, 75), (⟨"ThreadTownModel", "linkedTo", "(I)I"⟩, 75), (⟨"ThreadTownModel", "comesTo", "(III)Z"⟩, 75), (⟨"ThreadTownModel", "walks", "(II)V"⟩, 75)]
theorem lw_r7 : ∀ q ∈ lw_privs_7, lw_okq q := List.forall_mem_cons.mpr ⟨lw_p96, List.forall_mem_cons.mpr ⟨lw_p97, List.forall_mem_cons.mpr ⟨lw_p98, List.forall_mem_cons.mpr ⟨lw_p99, List.forall_mem_cons.mpr ⟨lw_p100, List.forall_mem_cons.mpr ⟨lw_p101, List.forall_mem_cons.mpr ⟨lw_p102, List.forall_mem_cons.mpr ⟨lw_p103, List.forall_mem_cons.mpr ⟨lw_p104, List.forall_mem_cons.mpr ⟨lw_p105, List.forall_mem_cons.mpr ⟨lw_p106, List.forall_mem_cons.mpr ⟨lw_p107, List.forall_mem_cons.mpr ⟨lw_p108, List.forall_mem_cons.mpr ⟨lw_p109, List.forall_mem_cons.mpr ⟨lw_p110, List.forall_mem_cons.mpr ⟨lw_p111, fun _ h => absurd h List.not_mem_nil⟩⟩⟩⟩⟩⟩⟩⟩⟩⟩⟩⟩⟩⟩⟩⟩
theorem lw_p112 : lw_okq (⟨"ThreadTownModel", "isSo", "(IIII)Z"⟩, 75) := ⟨⟨by decide +kernel, by decide +kernel⟩, lw_t6 (List.mem_of_getElem? (i := 237) rfl), lw_t9 (List.mem_of_getElem? (i := 189) rfl), lw_t9 (List.mem_of_getElem? (i := 190) rfl)⟩
def lw_privs_8 : List (MethodName × Nat) := [(⟨"ThreadTownModel", "isSo", "(IIII)Z"⟩, 75)]
theorem lw_r8 : ∀ q ∈ lw_privs_8, lw_okq q := List.forall_mem_cons.mpr ⟨lw_p112, fun _ h => absurd h List.not_mem_nil⟩
def lw_privs : List (MethodName × Nat) := lw_privs_1 ++ (lw_privs_2 ++ (lw_privs_3 ++ (lw_privs_4 ++ (lw_privs_5 ++ (lw_privs_6 ++ (lw_privs_7 ++ (lw_privs_8)))))))
def lw_tbl : List Cond := k2_sels lw_privs ++ tables_1
theorem lw_privs_ok : ∀ q ∈ lw_privs, lw_okq q := by
  show ∀ q ∈ lw_privs_1 ++ (lw_privs_2 ++ (lw_privs_3 ++ (lw_privs_4 ++ (lw_privs_5 ++ (lw_privs_6 ++ (lw_privs_7 ++ (lw_privs_8))))))), lw_okq q
  exact List.forall_mem_append.mpr ⟨lw_r1, List.forall_mem_append.mpr ⟨lw_r2, List.forall_mem_append.mpr ⟨lw_r3, List.forall_mem_append.mpr ⟨lw_r4, List.forall_mem_append.mpr ⟨lw_r5, List.forall_mem_append.mpr ⟨lw_r6, List.forall_mem_append.mpr ⟨lw_r7, lw_r8⟩⟩⟩⟩⟩⟩⟩
-- ===== ONE list of words for every method: the tables' words that hold all through a run =====
def lw_all : List Cond := lw_tbl.filter goodWord
/-- a word of the tables by its place: claim/WORDS.tsv -/
theorem lw_w {w : Cond} (i : Nat) (h : lw_tbl[i]? = some w) (g : goodWord w = true) : w ∈ lw_all := List.mem_filter.mpr ⟨List.mem_of_getElem? h, g⟩
theorem lw_all_tbl {w : Cond} (h : w ∈ lw_all) : w ∈ lw_tbl := (List.mem_filter.mp h).1
theorem lw_self : GoodIn lw_all lw_all := fun w h => ⟨h, good_of_word (List.mem_filter.mp h).2⟩
/-- a class's field words, by their places -/
theorem lw_in (ws : List Cond) (ps : List Nat) (hp : ws = ps.filterMap (fun i => lw_tbl[i]?)) (hg : ws.all goodWord = true) : ∀ w ∈ ws, w ∈ lw_all := by
  intro w h
  have h1 := List.all_eq_true.mp hg w h
  rw [hp] at h
  obtain ⟨i, -, hi⟩ := List.mem_filterMap.mp h
  exact lw_w i hi h1
/-- the words of a contract for the method y with code b, L locals, answer r -/
abbrev ws_ (y : MethodName) (b : ByteArray) (L : Nat) (r : Option FieldType) : List Cond := Cond.code y b L r :: lw_all
theorem lw_meth {y : MethodName} {b : ByteArray} {L : Nat} {r : Option FieldType} (h : Cond.code y b L r ∈ lw_all) : GoodIn lw_all (ws_ y b L r) := by
  intro w hw
  rcases List.mem_cons.mp hw with e | e
  · rw [e]
    exact lw_self _ h
  · exact lw_self _ e
theorem lw_app {a c : List Cond} (ha : ∀ w ∈ a, w ∈ lw_all) (hc : GoodIn lw_all c) : GoodIn lw_all (a ++ c) := by
  intro w hw
  rcases List.mem_append.mp hw with e | e
  · exact lw_self w (ha w e)
  · exact hc w e
/-- what a call through an object asks: cwV n hts (lw_V ..) -/
theorem lw_V {own : String} {idx : Nat} {C : String} {y : MethodName} {b : ByteArray} {L : Nat} {r : Option FieldType} (h1 : Cond.methodLink own idx y ∈ lw_all) (h2 : Cond.instanceMethod y ∈ lw_all) (h3 : Cond.selects C y y ∈ lw_all) (h4 : Cond.initialized C ∈ lw_all) (h5 : Cond.code y b L r ∈ lw_all) : GoodIn lw_all (wsV own idx C y (ws_ y b L r)) := by
  refine lw_app ?_ (lw_meth h5)
  intro w hw
  simp only [List.mem_cons, List.not_mem_nil, or_false] at hw
  rcases hw with e | e | e | e
  · rw [e]; exact h1
  · rw [e]; exact h2
  · rw [e]; exact h3
  · rw [e]; exact h4
/-- what a static call asks: va_cwS n hts (lw_S ..) -/
theorem lw_S {own : String} {idx : Nat} {y : MethodName} {b : ByteArray} {L : Nat} {r : Option FieldType} (h1 : Cond.methodLink own idx y ∈ lw_all) (h2 : Cond.static y ∈ lw_all) (h3 : Cond.initialized y.cls ∈ lw_all) (h4 : Cond.code y b L r ∈ lw_all) : GoodIn lw_all (va_wsS own idx y (ws_ y b L r)) := by
  refine lw_app ?_ (lw_meth h4)
  intro w hw
  simp only [List.mem_cons, List.not_mem_nil, or_false] at hw
  rcases hw with e | e | e
  · rw [e]; exact h1
  · rw [e]; exact h2
  · rw [e]; exact h3
/-- the words of a contract for a method WITH HANDLERS (hh: its table) -/
abbrev wsW_ (y : MethodName) (b : ByteArray) (L : Nat) (r : Option FieldType) (hh : List (Nat × Nat × Nat × Nat)) : List Cond := Cond.codeWith y b L r hh :: lw_all
theorem lw_methW {y : MethodName} {b : ByteArray} {L : Nat} {r : Option FieldType} {hh : List (Nat × Nat × Nat × Nat)} (h : Cond.codeWith y b L r hh ∈ lw_all) : GoodIn lw_all (wsW_ y b L r hh) := by
  intro w hw
  rcases List.mem_cons.mp hw with e | e
  · rw [e]
    exact lw_self _ h
  · exact lw_self _ e
/-- any list of words by their places (lw_in), good -/
theorem lw_good {ws : List Cond} (h : ∀ w ∈ ws, w ∈ lw_all) : GoodIn lw_all ws := fun w hw => lw_self w (h w hw)
/-- what a call of a method with handlers asks: vx_cwVW n hts (lw_VW ..), vx_cwSW n hts (lw_SW ..) -/
theorem lw_VW {own : String} {idx : Nat} {C : String} {y : MethodName} {b : ByteArray} {L : Nat} {r : Option FieldType} {hh : List (Nat × Nat × Nat × Nat)} (h1 : Cond.methodLink own idx y ∈ lw_all) (h2 : Cond.instanceMethod y ∈ lw_all) (h3 : Cond.selects C y y ∈ lw_all) (h4 : Cond.initialized C ∈ lw_all) (h5 : Cond.codeWith y b L r hh ∈ lw_all) : GoodIn lw_all (wsV own idx C y (wsW_ y b L r hh)) := by
  refine lw_app ?_ (lw_methW h5)
  intro w hw
  simp only [List.mem_cons, List.not_mem_nil, or_false] at hw
  rcases hw with e | e | e | e
  · rw [e]; exact h1
  · rw [e]; exact h2
  · rw [e]; exact h3
  · rw [e]; exact h4
theorem lw_SW {own : String} {idx : Nat} {y : MethodName} {b : ByteArray} {L : Nat} {r : Option FieldType} {hh : List (Nat × Nat × Nat × Nat)} (h1 : Cond.methodLink own idx y ∈ lw_all) (h2 : Cond.static y ∈ lw_all) (h3 : Cond.initialized y.cls ∈ lw_all) (h4 : Cond.codeWith y b L r hh ∈ lw_all) : GoodIn lw_all (va_wsS own idx y (wsW_ y b L r hh)) := by
  refine lw_app ?_ (lw_methW h4)
  intro w hw
  simp only [List.mem_cons, List.not_mem_nil, or_false] at hw
  rcases hw with e | e | e
  · rw [e]; exact h1
  · rw [e]; exact h2
  · rw [e]; exact h3
/-- a word by its place in its run of the tables -/
theorem lw_at {r : List Cond} (hr : ∀ w ∈ r, w ∈ lw_tbl) {w : Cond} (i : Nat) (h : r[i]? = some w) : w ∈ lw_tbl := hr w (List.mem_of_getElem? h)
theorem lw_g {w : Cond} (h : w ∈ lw_tbl) (g : goodWord w = true) : w ∈ lw_all := List.mem_filter.mpr ⟨h, g⟩
theorem lw_ms : ∀ w ∈ k2_sels lw_privs, w ∈ lw_tbl := fun w h => show w ∈ k2_sels lw_privs ++ tables_1 from List.mem_append_left _ h
theorem lw_m1 : ∀ w ∈ tables_1_1, w ∈ lw_tbl := fun w h => show w ∈ k2_sels lw_privs ++ tables_1 from List.mem_append_right (k2_sels lw_privs) (show w ∈ tables_1 from List.mem_append_left _ h)
theorem lw_m2 : ∀ w ∈ tables_1_2, w ∈ lw_tbl := fun w h => show w ∈ k2_sels lw_privs ++ tables_1 from List.mem_append_right (k2_sels lw_privs) (show w ∈ tables_1 from List.mem_append_right _ (List.mem_append_left _ h))
theorem lw_m3 : ∀ w ∈ tables_1_3, w ∈ lw_tbl := fun w h => show w ∈ k2_sels lw_privs ++ tables_1 from List.mem_append_right (k2_sels lw_privs) (show w ∈ tables_1 from List.mem_append_right _ (List.mem_append_right _ (List.mem_append_left _ h)))
theorem lw_m4 : ∀ w ∈ tables_1_4, w ∈ lw_tbl := fun w h => show w ∈ k2_sels lw_privs ++ tables_1 from List.mem_append_right (k2_sels lw_privs) (show w ∈ tables_1 from List.mem_append_right _ (List.mem_append_right _ (List.mem_append_right _ (List.mem_append_left _ h))))
theorem lw_m5 : ∀ w ∈ tables_1_5, w ∈ lw_tbl := fun w h => show w ∈ k2_sels lw_privs ++ tables_1 from List.mem_append_right (k2_sels lw_privs) (show w ∈ tables_1 from List.mem_append_right _ (List.mem_append_right _ (List.mem_append_right _ (List.mem_append_right _ (List.mem_append_left _ h)))))
theorem lw_m6 : ∀ w ∈ tables_1_6, w ∈ lw_tbl := fun w h => show w ∈ k2_sels lw_privs ++ tables_1 from List.mem_append_right (k2_sels lw_privs) (show w ∈ tables_1 from List.mem_append_right _ (List.mem_append_right _ (List.mem_append_right _ (List.mem_append_right _ (List.mem_append_right _ (List.mem_append_left _ h))))))
theorem lw_m7 : ∀ w ∈ tables_1_7, w ∈ lw_tbl := fun w h => show w ∈ k2_sels lw_privs ++ tables_1 from List.mem_append_right (k2_sels lw_privs) (show w ∈ tables_1 from List.mem_append_right _ (List.mem_append_right _ (List.mem_append_right _ (List.mem_append_right _ (List.mem_append_right _ (List.mem_append_right _ (List.mem_append_left _ h)))))))
theorem lw_m8 : ∀ w ∈ tables_1_8, w ∈ lw_tbl := fun w h => show w ∈ k2_sels lw_privs ++ tables_1 from List.mem_append_right (k2_sels lw_privs) (show w ∈ tables_1 from List.mem_append_right _ (List.mem_append_right _ (List.mem_append_right _ (List.mem_append_right _ (List.mem_append_right _ (List.mem_append_right _ (List.mem_append_right _ (List.mem_append_left _ h))))))))
theorem lw_m9 : ∀ w ∈ tables_1_9, w ∈ lw_tbl := fun w h => show w ∈ k2_sels lw_privs ++ tables_1 from List.mem_append_right (k2_sels lw_privs) (show w ∈ tables_1 from List.mem_append_right _ (List.mem_append_right _ (List.mem_append_right _ (List.mem_append_right _ (List.mem_append_right _ (List.mem_append_right _ (List.mem_append_right _ (List.mem_append_right _ (List.mem_append_left _ h)))))))))
theorem lw_m10 : ∀ w ∈ tables_1_10, w ∈ lw_tbl := fun w h => show w ∈ k2_sels lw_privs ++ tables_1 from List.mem_append_right (k2_sels lw_privs) (show w ∈ tables_1 from List.mem_append_right _ (List.mem_append_right _ (List.mem_append_right _ (List.mem_append_right _ (List.mem_append_right _ (List.mem_append_right _ (List.mem_append_right _ (List.mem_append_right _ (List.mem_append_right _ h)))))))))
theorem qs0 : (Cond.selects "java/lang/Throwable" ⟨"java/lang/Throwable", "fillInStackTrace", "(I)Ljava/lang/Throwable;"⟩ ⟨"java/lang/Throwable", "fillInStackTrace", "(I)Ljava/lang/Throwable;"⟩) ∈ lw_all := lw_g (lw_at lw_ms 0 rfl) rfl
theorem qs1 : (Cond.selects "ThreadTown$Cloth" ⟨"ThreadTown$Cloth", "asks", "(LThreadTown$Law;IIII)I"⟩ ⟨"ThreadTown$Cloth", "asks", "(LThreadTown$Law;IIII)I"⟩) ∈ lw_all := lw_g (lw_at lw_ms 1 rfl) rfl
theorem qs2 : (Cond.selects "ThreadTown" ⟨"ThreadTown", "typed", "(I)V"⟩ ⟨"ThreadTown", "typed", "(I)V"⟩) ∈ lw_all := lw_g (lw_at lw_ms 2 rfl) rfl
theorem qs3 : (Cond.selects "ThreadTown$Tokens" ⟨"ThreadTown$Tokens", "isLetter", "(I)Z"⟩ ⟨"ThreadTown$Tokens", "isLetter", "(I)Z"⟩) ∈ lw_all := lw_g (lw_at lw_ms 3 rfl) rfl
theorem qs4 : (Cond.selects "ThreadTown$Tokens" ⟨"ThreadTown$Tokens", "at", "(I)I"⟩ ⟨"ThreadTown$Tokens", "at", "(I)I"⟩) ∈ lw_all := lw_g (lw_at lw_ms 4 rfl) rfl
theorem qs5 : (Cond.selects "ThreadTown$Tokens" ⟨"ThreadTown$Tokens", "word", "(II)I"⟩ ⟨"ThreadTown$Tokens", "word", "(II)I"⟩) ∈ lw_all := lw_g (lw_at lw_ms 5 rfl) rfl
theorem qs6 : (Cond.selects "ThreadTown$Tokens" ⟨"ThreadTown$Tokens", "isDigit", "(I)Z"⟩ ⟨"ThreadTown$Tokens", "isDigit", "(I)Z"⟩) ∈ lw_all := lw_g (lw_at lw_ms 6 rfl) rfl
theorem qs7 : (Cond.selects "ThreadTown$Tokens" ⟨"ThreadTown$Tokens", "sign", "(I)I"⟩ ⟨"ThreadTown$Tokens", "sign", "(I)I"⟩) ∈ lw_all := lw_g (lw_at lw_ms 7 rfl) rfl
theorem qs8 : (Cond.selects "ThreadTown$Tokens" ⟨"ThreadTown$Tokens", "add", "(IIII)V"⟩ ⟨"ThreadTown$Tokens", "add", "(IIII)V"⟩) ∈ lw_all := lw_g (lw_at lw_ms 8 rfl) rfl
theorem qs9 : (Cond.selects "ThreadTown$Parser" ⟨"ThreadTown$Parser", "sort", "()I"⟩ ⟨"ThreadTown$Parser", "sort", "()I"⟩) ∈ lw_all := lw_g (lw_at lw_ms 9 rfl) rfl
theorem qs10 : (Cond.selects "ThreadTown$Parser" ⟨"ThreadTown$Parser", "wrong", "(I)LThreadTown$Fault;"⟩ ⟨"ThreadTown$Parser", "wrong", "(I)LThreadTown$Fault;"⟩) ∈ lw_all := lw_g (lw_at lw_ms 10 rfl) rfl
theorem qs11 : (Cond.selects "ThreadTown$Parser" ⟨"ThreadTown$Parser", "wrongAt", "(II)LThreadTown$Fault;"⟩ ⟨"ThreadTown$Parser", "wrongAt", "(II)LThreadTown$Fault;"⟩) ∈ lw_all := lw_g (lw_at lw_ms 11 rfl) rfl
theorem qs12 : (Cond.selects "ThreadTown$Parser" ⟨"ThreadTown$Parser", "told", "()V"⟩ ⟨"ThreadTown$Parser", "told", "()V"⟩) ∈ lw_all := lw_g (lw_at lw_ms 12 rfl) rfl
theorem qs13 : (Cond.selects "ThreadTown$Parser" ⟨"ThreadTown$Parser", "pass", "()V"⟩ ⟨"ThreadTown$Parser", "pass", "()V"⟩) ∈ lw_all := lw_g (lw_at lw_ms 13 rfl) rfl
theorem qs14 : (Cond.selects "ThreadTown$Parser" ⟨"ThreadTown$Parser", "number", "(II)I"⟩ ⟨"ThreadTown$Parser", "number", "(II)I"⟩) ∈ lw_all := lw_g (lw_at lw_ms 14 rfl) rfl
theorem qs15 : (Cond.selects "ThreadTown$Parser" ⟨"ThreadTown$Parser", "take", "(I)I"⟩ ⟨"ThreadTown$Parser", "take", "(I)I"⟩) ∈ lw_all := lw_g (lw_at lw_ms 15 rfl) rfl
theorem qs16 : (Cond.selects "ThreadTown$Parser" ⟨"ThreadTown$Parser", "tell", "(II)V"⟩ ⟨"ThreadTown$Parser", "tell", "(II)V"⟩) ∈ lw_all := lw_g (lw_at lw_ms 16 rfl) rfl
theorem qs17 : (Cond.selects "ThreadTown$Parser" ⟨"ThreadTown$Parser", "begins", "(II)V"⟩ ⟨"ThreadTown$Parser", "begins", "(II)V"⟩) ∈ lw_all := lw_g (lw_at lw_ms 17 rfl) rfl
theorem qs18 : (Cond.selects "ThreadTown$Parser" ⟨"ThreadTown$Parser", "name", "()Ljava/lang/String;"⟩ ⟨"ThreadTown$Parser", "name", "()Ljava/lang/String;"⟩) ∈ lw_all := lw_g (lw_at lw_ms 18 rfl) rfl
theorem qs19 : (Cond.selects "java/util/ArrayList" ⟨"java/util/ArrayList", "add", "(Ljava/lang/Object;[Ljava/lang/Object;I)V"⟩ ⟨"java/util/ArrayList", "add", "(Ljava/lang/Object;[Ljava/lang/Object;I)V"⟩) ∈ lw_all := lw_g (lw_at lw_ms 19 rfl) rfl
theorem qs20 : (Cond.selects "java/util/ArrayList" ⟨"java/util/ArrayList", "grow", "()[Ljava/lang/Object;"⟩ ⟨"java/util/ArrayList", "grow", "()[Ljava/lang/Object;"⟩) ∈ lw_all := lw_g (lw_at lw_ms 20 rfl) rfl
theorem qs21 : (Cond.selects "java/util/ArrayList" ⟨"java/util/ArrayList", "grow", "(I)[Ljava/lang/Object;"⟩ ⟨"java/util/ArrayList", "grow", "(I)[Ljava/lang/Object;"⟩) ∈ lw_all := lw_g (lw_at lw_ms 21 rfl) rfl
theorem qs22 : (Cond.selects "ThreadTown$Parser" ⟨"ThreadTown$Parser", "known", "()I"⟩ ⟨"ThreadTown$Parser", "known", "()I"⟩) ∈ lw_all := lw_g (lw_at lw_ms 22 rfl) rfl
theorem qs23 : (Cond.selects "ThreadTown$Parser" ⟨"ThreadTown$Parser", "law", "()LThreadTown$Law;"⟩ ⟨"ThreadTown$Parser", "law", "()LThreadTown$Law;"⟩) ∈ lw_all := lw_g (lw_at lw_ms 23 rfl) rfl
theorem qs24 : (Cond.selects "ThreadTown$Parser" ⟨"ThreadTown$Parser", "sign", "(I)V"⟩ ⟨"ThreadTown$Parser", "sign", "(I)V"⟩) ∈ lw_all := lw_g (lw_at lw_ms 24 rfl) rfl
theorem qs25 : (Cond.selects "ThreadTown$Parser" ⟨"ThreadTown$Parser", "isSign", "(I)Z"⟩ ⟨"ThreadTown$Parser", "isSign", "(I)Z"⟩) ∈ lw_all := lw_g (lw_at lw_ms 25 rfl) rfl
theorem qs26 : (Cond.selects "ThreadTown$Parser" ⟨"ThreadTown$Parser", "isWord", "(I)Z"⟩ ⟨"ThreadTown$Parser", "isWord", "(I)Z"⟩) ∈ lw_all := lw_g (lw_at lw_ms 26 rfl) rfl
theorem qs27 : (Cond.selects "ThreadTown$Parser" ⟨"ThreadTown$Parser", "sum", "()LThreadTown$Sum;"⟩ ⟨"ThreadTown$Parser", "sum", "()LThreadTown$Sum;"⟩) ∈ lw_all := lw_g (lw_at lw_ms 27 rfl) rfl
theorem qs28 : (Cond.selects "ThreadTown$Parser" ⟨"ThreadTown$Parser", "part", "()LThreadTown$Sum;"⟩ ⟨"ThreadTown$Parser", "part", "()LThreadTown$Sum;"⟩) ∈ lw_all := lw_g (lw_at lw_ms 28 rfl) rfl
theorem qs29 : (Cond.selects "ThreadTown$Parser" ⟨"ThreadTown$Parser", "unit", "()LThreadTown$Sum;"⟩ ⟨"ThreadTown$Parser", "unit", "()LThreadTown$Sum;"⟩) ∈ lw_all := lw_g (lw_at lw_ms 29 rfl) rfl
theorem qs30 : (Cond.selects "ThreadTown$Parser" ⟨"ThreadTown$Parser", "word", "(I)V"⟩ ⟨"ThreadTown$Parser", "word", "(I)V"⟩) ∈ lw_all := lw_g (lw_at lw_ms 30 rfl) rfl
theorem qs31 : (Cond.selects "ThreadTown$Parser" ⟨"ThreadTown$Parser", "errand", "()V"⟩ ⟨"ThreadTown$Parser", "errand", "()V"⟩) ∈ lw_all := lw_g (lw_at lw_ms 31 rfl) rfl
theorem qs32 : (Cond.selects "ThreadTown" ⟨"ThreadTown", "isMan", "(I)Z"⟩ ⟨"ThreadTown", "isMan", "(I)Z"⟩) ∈ lw_all := lw_g (lw_at lw_ms 32 rfl) rfl
theorem qs33 : (Cond.selects "ThreadTown" ⟨"ThreadTown", "men", "()I"⟩ ⟨"ThreadTown", "men", "()I"⟩) ∈ lw_all := lw_g (lw_at lw_ms 33 rfl) rfl
theorem qs34 : (Cond.selects "ThreadTown" ⟨"ThreadTown", "keeps", "()V"⟩ ⟨"ThreadTown", "keeps", "()V"⟩) ∈ lw_all := lw_g (lw_at lw_ms 34 rfl) rfl
theorem qs35 : (Cond.selects "ThreadTown" ⟨"ThreadTown", "areTwo", "(II)Z"⟩ ⟨"ThreadTown", "areTwo", "(II)Z"⟩) ∈ lw_all := lw_g (lw_at lw_ms 35 rfl) rfl
theorem qs36 : (Cond.selects "ThreadTown" ⟨"ThreadTown", "laysWaits", "()I"⟩ ⟨"ThreadTown", "laysWaits", "()I"⟩) ∈ lw_all := lw_g (lw_at lw_ms 36 rfl) rfl
theorem qs37 : (Cond.selects "ThreadTown" ⟨"ThreadTown", "leastCut", "()I"⟩ ⟨"ThreadTown", "leastCut", "()I"⟩) ∈ lw_all := lw_g (lw_at lw_ms 37 rfl) rfl
theorem qs38 : (Cond.selects "ThreadTown" ⟨"ThreadTown", "piecesOf", "(I)I"⟩ ⟨"ThreadTown", "piecesOf", "(I)I"⟩) ∈ lw_all := lw_g (lw_at lw_ms 38 rfl) rfl
theorem qs39 : (Cond.selects "ThreadTown" ⟨"ThreadTown", "laysLeft", "(LThreadTown$Man;)V"⟩ ⟨"ThreadTown", "laysLeft", "(LThreadTown$Man;)V"⟩) ∈ lw_all := lw_g (lw_at lw_ms 39 rfl) rfl
theorem qs40 : (Cond.selects "ThreadTown" ⟨"ThreadTown", "wayFrom", "(LThreadTown$Man;II)I"⟩ ⟨"ThreadTown", "wayFrom", "(LThreadTown$Man;II)I"⟩) ∈ lw_all := lw_g (lw_at lw_ms 40 rfl) rfl
theorem qs41 : (Cond.selects "ThreadTown" ⟨"ThreadTown", "overAll", "(I)I"⟩ ⟨"ThreadTown", "overAll", "(I)I"⟩) ∈ lw_all := lw_g (lw_at lw_ms 41 rfl) rfl
theorem qs42 : (Cond.selects "ThreadTown" ⟨"ThreadTown", "isStreet", "(III)Z"⟩ ⟨"ThreadTown", "isStreet", "(III)Z"⟩) ∈ lw_all := lw_g (lw_at lw_ms 42 rfl) rfl
theorem qs43 : (Cond.selects "ThreadTown" ⟨"ThreadTown", "runsDusk", "(I)V"⟩ ⟨"ThreadTown", "runsDusk", "(I)V"⟩) ∈ lw_all := lw_g (lw_at lw_ms 43 rfl) rfl
theorem qs44 : (Cond.selects "ThreadTown" ⟨"ThreadTown", "windsAll", "(II)I"⟩ ⟨"ThreadTown", "windsAll", "(II)I"⟩) ∈ lw_all := lw_g (lw_at lw_ms 44 rfl) rfl
theorem qs45 : (Cond.selects "ThreadTown" ⟨"ThreadTown", "nextOf", "(I)I"⟩ ⟨"ThreadTown", "nextOf", "(I)I"⟩) ∈ lw_all := lw_g (lw_at lw_ms 45 rfl) rfl
theorem qs46 : (Cond.selects "ThreadTown" ⟨"ThreadTown", "around", "(I)I"⟩ ⟨"ThreadTown", "around", "(I)I"⟩) ∈ lw_all := lw_g (lw_at lw_ms 46 rfl) rfl
theorem qs47 : (Cond.selects "ThreadTown" ⟨"ThreadTown", "comesTo", "(III)Z"⟩ ⟨"ThreadTown", "comesTo", "(III)Z"⟩) ∈ lw_all := lw_g (lw_at lw_ms 47 rfl) rfl
theorem qs48 : (Cond.selects "ThreadTown" ⟨"ThreadTown", "laysLegs", "(II)V"⟩ ⟨"ThreadTown", "laysLegs", "(II)V"⟩) ∈ lw_all := lw_g (lw_at lw_ms 48 rfl) rfl
theorem qs49 : (Cond.selects "ThreadTown" ⟨"ThreadTown", "goesLeg", "([IIIII)V"⟩ ⟨"ThreadTown", "goesLeg", "([IIIII)V"⟩) ∈ lw_all := lw_g (lw_at lw_ms 49 rfl) rfl
theorem qs50 : (Cond.selects "ThreadTown" ⟨"ThreadTown", "lieTogether", "(IIII)I"⟩ ⟨"ThreadTown", "lieTogether", "(IIII)I"⟩) ∈ lw_all := lw_g (lw_at lw_ms 50 rfl) rfl
theorem qs51 : (Cond.selects "ThreadTown" ⟨"ThreadTown", "isSo", "(II)Z"⟩ ⟨"ThreadTown", "isSo", "(II)Z"⟩) ∈ lw_all := lw_g (lw_at lw_ms 51 rfl) rfl
theorem qs52 : (Cond.selects "ThreadTownModel" ⟨"ThreadTownModel", "plain0", "(I)V"⟩ ⟨"ThreadTownModel", "plain0", "(I)V"⟩) ∈ lw_all := lw_g (lw_at lw_ms 52 rfl) rfl
theorem qs53 : (Cond.selects "ThreadTownModel" ⟨"ThreadTownModel", "begins", "()V"⟩ ⟨"ThreadTownModel", "begins", "()V"⟩) ∈ lw_all := lw_g (lw_at lw_ms 53 rfl) rfl
theorem qs54 : (Cond.selects "ThreadTownModel" ⟨"ThreadTownModel", "keepsRow", "()V"⟩ ⟨"ThreadTownModel", "keepsRow", "()V"⟩) ∈ lw_all := lw_g (lw_at lw_ms 54 rfl) rfl
theorem qs55 : (Cond.selects "ThreadTownModel" ⟨"ThreadTownModel", "put", "(I)V"⟩ ⟨"ThreadTownModel", "put", "(I)V"⟩) ∈ lw_all := lw_g (lw_at lw_ms 55 rfl) rfl
theorem qs56 : (Cond.selects "ThreadTownModel" ⟨"ThreadTownModel", "cut0", "()V"⟩ ⟨"ThreadTownModel", "cut0", "()V"⟩) ∈ lw_all := lw_g (lw_at lw_ms 56 rfl) rfl
theorem qs57 : (Cond.selects "ThreadTownModel" ⟨"ThreadTownModel", "byteAt", "(I)I"⟩ ⟨"ThreadTownModel", "byteAt", "(I)I"⟩) ∈ lw_all := lw_g (lw_at lw_ms 57 rfl) rfl
theorem qs58 : (Cond.selects "ThreadTownModel" ⟨"ThreadTownModel", "token", "(IIIJ)V"⟩ ⟨"ThreadTownModel", "token", "(IIIJ)V"⟩) ∈ lw_all := lw_g (lw_at lw_ms 58 rfl) rfl
theorem qs59 : (Cond.selects "ThreadTownModel" ⟨"ThreadTownModel", "sign", "(III)I"⟩ ⟨"ThreadTownModel", "sign", "(III)I"⟩) ∈ lw_all := lw_g (lw_at lw_ms 59 rfl) rfl
theorem qs60 : (Cond.selects "ThreadTownModel" ⟨"ThreadTownModel", "is", "(I)Z"⟩ ⟨"ThreadTownModel", "is", "(I)Z"⟩) ∈ lw_all := lw_g (lw_at lw_ms 60 rfl) rfl
theorem qs61 : (Cond.selects "ThreadTownModel" ⟨"ThreadTownModel", "tell0", "()V"⟩ ⟨"ThreadTownModel", "tell0", "()V"⟩) ∈ lw_all := lw_g (lw_at lw_ms 61 rfl) rfl
theorem qs62 : (Cond.selects "ThreadTownModel" ⟨"ThreadTownModel", "goesOn", "()V"⟩ ⟨"ThreadTownModel", "goesOn", "()V"⟩) ∈ lw_all := lw_g (lw_at lw_ms 62 rfl) rfl
theorem qs63 : (Cond.selects "ThreadTownModel" ⟨"ThreadTownModel", "fail", "(I)V"⟩ ⟨"ThreadTownModel", "fail", "(I)V"⟩) ∈ lw_all := lw_g (lw_at lw_ms 63 rfl) rfl
theorem qs64 : (Cond.selects "ThreadTownModel" ⟨"ThreadTownModel", "bounded", "(II)I"⟩ ⟨"ThreadTownModel", "bounded", "(II)I"⟩) ∈ lw_all := lw_g (lw_at lw_ms 64 rfl) rfl
theorem qs65 : (Cond.selects "ThreadTownModel" ⟨"ThreadTownModel", "wrong", "(II)V"⟩ ⟨"ThreadTownModel", "wrong", "(II)V"⟩) ∈ lw_all := lw_g (lw_at lw_ms 65 rfl) rfl
theorem qs66 : (Cond.selects "ThreadTownModel" ⟨"ThreadTownModel", "must", "(I)V"⟩ ⟨"ThreadTownModel", "must", "(I)V"⟩) ∈ lw_all := lw_g (lw_at lw_ms 66 rfl) rfl
theorem qs67 : (Cond.selects "ThreadTownModel" ⟨"ThreadTownModel", "roomFor", "(II)V"⟩ ⟨"ThreadTownModel", "roomFor", "(II)V"⟩) ∈ lw_all := lw_g (lw_at lw_ms 67 rfl) rfl
theorem qs68 : (Cond.selects "ThreadTownModel" ⟨"ThreadTownModel", "tellMan", "()V"⟩ ⟨"ThreadTownModel", "tellMan", "()V"⟩) ∈ lw_all := lw_g (lw_at lw_ms 68 rfl) rfl
theorem qs69 : (Cond.selects "ThreadTownModel" ⟨"ThreadTownModel", "manAt", "(I)I"⟩ ⟨"ThreadTownModel", "manAt", "(I)I"⟩) ∈ lw_all := lw_g (lw_at lw_ms 69 rfl) rfl
theorem qs70 : (Cond.selects "ThreadTownModel" ⟨"ThreadTownModel", "notesCorner", "(III)V"⟩ ⟨"ThreadTownModel", "notesCorner", "(III)V"⟩) ∈ lw_all := lw_g (lw_at lw_ms 70 rfl) rfl
theorem qs71 : (Cond.selects "ThreadTownModel" ⟨"ThreadTownModel", "known", "()I"⟩ ⟨"ThreadTownModel", "known", "()I"⟩) ∈ lw_all := lw_g (lw_at lw_ms 71 rfl) rfl
theorem qs72 : (Cond.selects "ThreadTownModel" ⟨"ThreadTownModel", "tellLaw", "(I)V"⟩ ⟨"ThreadTownModel", "tellLaw", "(I)V"⟩) ∈ lw_all := lw_g (lw_at lw_ms 72 rfl) rfl
theorem qs73 : (Cond.selects "ThreadTownModel" ⟨"ThreadTownModel", "expression", "()V"⟩ ⟨"ThreadTownModel", "expression", "()V"⟩) ∈ lw_all := lw_g (lw_at lw_ms 73 rfl) rfl
theorem qs74 : (Cond.selects "ThreadTownModel" ⟨"ThreadTownModel", "unit", "()V"⟩ ⟨"ThreadTownModel", "unit", "()V"⟩) ∈ lw_all := lw_g (lw_at lw_ms 74 rfl) rfl
theorem qs75 : (Cond.selects "ThreadTownModel" ⟨"ThreadTownModel", "emit", "(II)V"⟩ ⟨"ThreadTownModel", "emit", "(II)V"⟩) ∈ lw_all := lw_g (lw_at lw_ms 75 rfl) rfl
theorem qs76 : (Cond.selects "ThreadTownModel" ⟨"ThreadTownModel", "comesOut", "(Z)V"⟩ ⟨"ThreadTownModel", "comesOut", "(Z)V"⟩) ∈ lw_all := lw_g (lw_at lw_ms 76 rfl) rfl
theorem qs77 : (Cond.selects "ThreadTownModel" ⟨"ThreadTownModel", "term", "()V"⟩ ⟨"ThreadTownModel", "term", "()V"⟩) ∈ lw_all := lw_g (lw_at lw_ms 77 rfl) rfl
theorem qs78 : (Cond.selects "ThreadTownModel" ⟨"ThreadTownModel", "tellErrand", "()V"⟩ ⟨"ThreadTownModel", "tellErrand", "()V"⟩) ∈ lw_all := lw_g (lw_at lw_ms 78 rfl) rfl
theorem qs79 : (Cond.selects "ThreadTownModel" ⟨"ThreadTownModel", "tellPillar", "()V"⟩ ⟨"ThreadTownModel", "tellPillar", "()V"⟩) ∈ lw_all := lw_g (lw_at lw_ms 79 rfl) rfl
theorem qs80 : (Cond.selects "ThreadTownModel" ⟨"ThreadTownModel", "isMan", "(I)Z"⟩ ⟨"ThreadTownModel", "isMan", "(I)Z"⟩) ∈ lw_all := lw_g (lw_at lw_ms 80 rfl) rfl
theorem qs81 : (Cond.selects "ThreadTownModel" ⟨"ThreadTownModel", "copies", "()V"⟩ ⟨"ThreadTownModel", "copies", "()V"⟩) ∈ lw_all := lw_g (lw_at lw_ms 81 rfl) rfl
theorem qs82 : (Cond.selects "ThreadTownModel" ⟨"ThreadTownModel", "leftOf", "(I)I"⟩ ⟨"ThreadTownModel", "leftOf", "(I)I"⟩) ∈ lw_all := lw_g (lw_at lw_ms 82 rfl) rfl
theorem qs83 : (Cond.selects "ThreadTownModel" ⟨"ThreadTownModel", "longOf", "(I)I"⟩ ⟨"ThreadTownModel", "longOf", "(I)I"⟩) ∈ lw_all := lw_g (lw_at lw_ms 83 rfl) rfl
theorem qs84 : (Cond.selects "ThreadTownModel" ⟨"ThreadTownModel", "tellsBy", "(I)I"⟩ ⟨"ThreadTownModel", "tellsBy", "(I)I"⟩) ∈ lw_all := lw_g (lw_at lw_ms 84 rfl) rfl
theorem qs85 : (Cond.selects "ThreadTownModel" ⟨"ThreadTownModel", "termOf", "(II)I"⟩ ⟨"ThreadTownModel", "termOf", "(II)I"⟩) ∈ lw_all := lw_g (lw_at lw_ms 85 rfl) rfl
theorem qs86 : (Cond.selects "ThreadTownModel" ⟨"ThreadTownModel", "goesOf", "(I)I"⟩ ⟨"ThreadTownModel", "goesOf", "(I)I"⟩) ∈ lw_all := lw_g (lw_at lw_ms 86 rfl) rfl
theorem qs87 : (Cond.selects "ThreadTownModel" ⟨"ThreadTownModel", "others", "(IIZ)I"⟩ ⟨"ThreadTownModel", "others", "(IIZ)I"⟩) ∈ lw_all := lw_g (lw_at lw_ms 87 rfl) rfl
theorem qs88 : (Cond.selects "ThreadTownModel" ⟨"ThreadTownModel", "steps", "(II)Z"⟩ ⟨"ThreadTownModel", "steps", "(II)Z"⟩) ∈ lw_all := lw_g (lw_at lw_ms 88 rfl) rfl
theorem qs89 : (Cond.selects "ThreadTownModel" ⟨"ThreadTownModel", "isCorner", "(II)Z"⟩ ⟨"ThreadTownModel", "isCorner", "(II)Z"⟩) ∈ lw_all := lw_g (lw_at lw_ms 89 rfl) rfl
theorem qs90 : (Cond.selects "ThreadTownModel" ⟨"ThreadTownModel", "keeps", "()V"⟩ ⟨"ThreadTownModel", "keeps", "()V"⟩) ∈ lw_all := lw_g (lw_at lw_ms 90 rfl) rfl
theorem qs91 : (Cond.selects "ThreadTownModel" ⟨"ThreadTownModel", "winds", "(I)Z"⟩ ⟨"ThreadTownModel", "winds", "(I)Z"⟩) ∈ lw_all := lw_g (lw_at lw_ms 91 rfl) rfl
theorem qs92 : (Cond.selects "ThreadTownModel" ⟨"ThreadTownModel", "minuteGoes", "()V"⟩ ⟨"ThreadTownModel", "minuteGoes", "()V"⟩) ∈ lw_all := lw_g (lw_at lw_ms 92 rfl) rfl
theorem qs93 : (Cond.selects "ThreadTownModel" ⟨"ThreadTownModel", "areTwo", "(II)Z"⟩ ⟨"ThreadTownModel", "areTwo", "(II)Z"⟩) ∈ lw_all := lw_g (lw_at lw_ms 93 rfl) rfl
theorem qs94 : (Cond.selects "ThreadTownModel" ⟨"ThreadTownModel", "overOf", "(II)I"⟩ ⟨"ThreadTownModel", "overOf", "(II)I"⟩) ∈ lw_all := lw_g (lw_at lw_ms 94 rfl) rfl
theorem qs95 : (Cond.selects "ThreadTownModel" ⟨"ThreadTownModel", "fillsWaits", "()I"⟩ ⟨"ThreadTownModel", "fillsWaits", "()I"⟩) ∈ lw_all := lw_g (lw_at lw_ms 95 rfl) rfl
theorem qs96 : (Cond.selects "ThreadTownModel" ⟨"ThreadTownModel", "fillsOrders", "()V"⟩ ⟨"ThreadTownModel", "fillsOrders", "()V"⟩) ∈ lw_all := lw_g (lw_at lw_ms 96 rfl) rfl
theorem qs97 : (Cond.selects "ThreadTownModel" ⟨"ThreadTownModel", "piecesOf", "(I)I"⟩ ⟨"ThreadTownModel", "piecesOf", "(I)I"⟩) ∈ lw_all := lw_g (lw_at lw_ms 97 rfl) rfl
theorem qs98 : (Cond.selects "ThreadTownModel" ⟨"ThreadTownModel", "wayOf", "(I)I"⟩ ⟨"ThreadTownModel", "wayOf", "(I)I"⟩) ∈ lw_all := lw_g (lw_at lw_ms 98 rfl) rfl
theorem qs99 : (Cond.selects "ThreadTownModel" ⟨"ThreadTownModel", "wayFrom", "(III)I"⟩ ⟨"ThreadTownModel", "wayFrom", "(III)I"⟩) ∈ lw_all := lw_g (lw_at lw_ms 99 rfl) rfl
theorem qs100 : (Cond.selects "ThreadTownModel" ⟨"ThreadTownModel", "nextOrder", "(I)Z"⟩ ⟨"ThreadTownModel", "nextOrder", "(I)Z"⟩) ∈ lw_all := lw_g (lw_at lw_ms 100 rfl) rfl
theorem qs101 : (Cond.selects "ThreadTownModel" ⟨"ThreadTownModel", "turnsOf", "(II)I"⟩ ⟨"ThreadTownModel", "turnsOf", "(II)I"⟩) ∈ lw_all := lw_g (lw_at lw_ms 101 rfl) rfl
theorem qs102 : (Cond.selects "ThreadTownModel" ⟨"ThreadTownModel", "overAll", "(I)I"⟩ ⟨"ThreadTownModel", "overAll", "(I)I"⟩) ∈ lw_all := lw_g (lw_at lw_ms 102 rfl) rfl
theorem qs103 : (Cond.selects "ThreadTownModel" ⟨"ThreadTownModel", "isStreet", "(III)Z"⟩ ⟨"ThreadTownModel", "isStreet", "(III)Z"⟩) ∈ lw_all := lw_g (lw_at lw_ms 103 rfl) rfl
theorem qs104 : (Cond.selects "ThreadTownModel" ⟨"ThreadTownModel", "manyOn", "(I)I"⟩ ⟨"ThreadTownModel", "manyOn", "(I)I"⟩) ∈ lw_all := lw_g (lw_at lw_ms 104 rfl) rfl
theorem qs105 : (Cond.selects "ThreadTownModel" ⟨"ThreadTownModel", "whoseAt", "(II)I"⟩ ⟨"ThreadTownModel", "whoseAt", "(II)I"⟩) ∈ lw_all := lw_g (lw_at lw_ms 105 rfl) rfl
theorem qs106 : (Cond.selects "ThreadTownModel" ⟨"ThreadTownModel", "topOf", "(I)I"⟩ ⟨"ThreadTownModel", "topOf", "(I)I"⟩) ∈ lw_all := lw_g (lw_at lw_ms 106 rfl) rfl
theorem qs107 : (Cond.selects "ThreadTownModel" ⟨"ThreadTownModel", "duskBy", "(I)V"⟩ ⟨"ThreadTownModel", "duskBy", "(I)V"⟩) ∈ lw_all := lw_g (lw_at lw_ms 107 rfl) rfl
theorem qs108 : (Cond.selects "ThreadTownModel" ⟨"ThreadTownModel", "knowsNow", "(I)I"⟩ ⟨"ThreadTownModel", "knowsNow", "(I)I"⟩) ∈ lw_all := lw_g (lw_at lw_ms 108 rfl) rfl
theorem qs109 : (Cond.selects "ThreadTownModel" ⟨"ThreadTownModel", "linkedTo", "(I)I"⟩ ⟨"ThreadTownModel", "linkedTo", "(I)I"⟩) ∈ lw_all := lw_g (lw_at lw_ms 109 rfl) rfl
theorem qs110 : (Cond.selects "ThreadTownModel" ⟨"ThreadTownModel", "comesTo", "(III)Z"⟩ ⟨"ThreadTownModel", "comesTo", "(III)Z"⟩) ∈ lw_all := lw_g (lw_at lw_ms 110 rfl) rfl
theorem qs111 : (Cond.selects "ThreadTownModel" ⟨"ThreadTownModel", "walks", "(II)V"⟩ ⟨"ThreadTownModel", "walks", "(II)V"⟩) ∈ lw_all := lw_g (lw_at lw_ms 111 rfl) rfl
theorem qs112 : (Cond.selects "ThreadTownModel" ⟨"ThreadTownModel", "isSo", "(IIII)Z"⟩ ⟨"ThreadTownModel", "isSo", "(IIII)Z"⟩) ∈ lw_all := lw_g (lw_at lw_ms 112 rfl) rfl
