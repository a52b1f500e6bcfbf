-- ===== PART A: goes FIRST, ahead of the names: the tables' words, and 'selects' of the private methods out of them =====
/-- a private method of a class that the tables say can be made, by its rows of tables_1 -/
def lw_okq (q : MethodName × Nat) : Prop := (q.1.cls ≠ "java/lang/invoke/MethodHandle" ∧ q.1.cls ≠ "java/lang/invoke/VarHandle") ∧ Cond.instantiable q.1.cls q.2 ∈ tables_1 ∧ Cond.privateMethod q.1 ∈ tables_1 ∧ Cond.instanceMethod q.1 ∈ tables_1
set_option maxRecDepth 100000
theorem lw_t1 {w : Cond} (h : w ∈ tables_1_1) : w ∈ tables_1 := List.mem_append_left _ h
theorem lw_t2 {w : Cond} (h : w ∈ tables_1_2) : w ∈ tables_1 := List.mem_append_right _ (List.mem_append_left _ h)
theorem lw_t3 {w : Cond} (h : w ∈ tables_1_3) : w ∈ tables_1 := List.mem_append_right _ (List.mem_append_right _ (List.mem_append_left _ h))
theorem lw_t4 {w : Cond} (h : w ∈ tables_1_4) : w ∈ tables_1 := List.mem_append_right _ (List.mem_append_right _ (List.mem_append_right _ (List.mem_append_left _ h)))
theorem lw_t5 {w : Cond} (h : w ∈ tables_1_5) : w ∈ tables_1 := List.mem_append_right _ (List.mem_append_right _ (List.mem_append_right _ (List.mem_append_right _ (List.mem_append_left _ h))))
theorem lw_t6 {w : Cond} (h : w ∈ tables_1_6) : w ∈ tables_1 := List.mem_append_right _ (List.mem_append_right _ (List.mem_append_right _ (List.mem_append_right _ (List.mem_append_right _ (List.mem_append_left _ h)))))
theorem lw_t7 {w : Cond} (h : w ∈ tables_1_7) : w ∈ tables_1 := List.mem_append_right _ (List.mem_append_right _ (List.mem_append_right _ (List.mem_append_right _ (List.mem_append_right _ (List.mem_append_right _ (List.mem_append_left _ h))))))
theorem lw_t8 {w : Cond} (h : w ∈ tables_1_8) : w ∈ tables_1 := List.mem_append_right _ (List.mem_append_right _ (List.mem_append_right _ (List.mem_append_right _ (List.mem_append_right _ (List.mem_append_right _ (List.mem_append_right _ (List.mem_append_left _ h)))))))
theorem lw_t9 {w : Cond} (h : w ∈ tables_1_9) : w ∈ tables_1 := List.mem_append_right _ (List.mem_append_right _ (List.mem_append_right _ (List.mem_append_right _ (List.mem_append_right _ (List.mem_append_right _ (List.mem_append_right _ (List.mem_append_right _ (List.mem_append_left _ h))))))))
theorem lw_t10 {w : Cond} (h : w ∈ tables_1_10) : w ∈ tables_1 := List.mem_append_right _ (List.mem_append_right _ (List.mem_append_right _ (List.mem_append_right _ (List.mem_append_right _ (List.mem_append_right _ (List.mem_append_right _ (List.mem_append_right _ (List.mem_append_right _ h))))))))
theorem lw_p0 : lw_okq (⟨"LiarsCock$Reader", "cut", "()V"⟩, 9) := ⟨⟨by decide +kernel, by decide +kernel⟩, lw_t1 (List.mem_of_getElem? (i := 57) rfl), lw_t2 (List.mem_of_getElem? (i := 123) rfl), lw_t2 (List.mem_of_getElem? (i := 124) rfl)⟩
theorem lw_p1 : lw_okq (⟨"LiarsCock$Reader", "isWord", "(Ljava/lang/String;)Z"⟩, 9) := ⟨⟨by decide +kernel, by decide +kernel⟩, lw_t1 (List.mem_of_getElem? (i := 57) rfl), lw_t2 (List.mem_of_getElem? (i := 228) rfl), lw_t2 (List.mem_of_getElem? (i := 229) rfl)⟩
theorem lw_p2 : lw_okq (⟨"LiarsCock$Reader", "fact", "()V"⟩, 9) := ⟨⟨by decide +kernel, by decide +kernel⟩, lw_t1 (List.mem_of_getElem? (i := 57) rfl), lw_t3 (List.mem_of_getElem? (i := 16) rfl), lw_t3 (List.mem_of_getElem? (i := 17) rfl)⟩
theorem lw_p3 : lw_okq (⟨"LiarsCock$Reader", "newName", "(Z)J"⟩, 9) := ⟨⟨by decide +kernel, by decide +kernel⟩, lw_t1 (List.mem_of_getElem? (i := 57) rfl), lw_t3 (List.mem_of_getElem? (i := 24) rfl), lw_t3 (List.mem_of_getElem? (i := 25) rfl)⟩
theorem lw_p4 : lw_okq (⟨"LiarsCock$Reader", "wrong", "(I)LLiarsCock$Wrong;"⟩, 9) := ⟨⟨by decide +kernel, by decide +kernel⟩, lw_t1 (List.mem_of_getElem? (i := 57) rfl), lw_t3 (List.mem_of_getElem? (i := 28) rfl), lw_t3 (List.mem_of_getElem? (i := 29) rfl)⟩
theorem lw_p5 : lw_okq (⟨"java/lang/Throwable", "fillInStackTrace", "(I)Ljava/lang/Throwable;"⟩, 6) := ⟨⟨by decide +kernel, by decide +kernel⟩, lw_t3 (List.mem_of_getElem? (i := 67) rfl), lw_t3 (List.mem_of_getElem? (i := 65) rfl), lw_t3 (List.mem_of_getElem? (i := 66) rfl)⟩
theorem lw_p6 : lw_okq (⟨"LiarsCock$Reader", "isName", "()Z"⟩, 9) := ⟨⟨by decide +kernel, by decide +kernel⟩, lw_t1 (List.mem_of_getElem? (i := 57) rfl), lw_t3 (List.mem_of_getElem? (i := 93) rfl), lw_t3 (List.mem_of_getElem? (i := 94) rfl)⟩
theorem lw_p7 : lw_okq (⟨"LiarsCock$Reader", "which", "([Ljava/lang/String;)I"⟩, 9) := ⟨⟨by decide +kernel, by decide +kernel⟩, lw_t1 (List.mem_of_getElem? (i := 57) rfl), lw_t3 (List.mem_of_getElem? (i := 97) rfl), lw_t3 (List.mem_of_getElem? (i := 98) rfl)⟩
theorem lw_p8 : lw_okq (⟨"LiarsCock$Reader", "number", "(II)I"⟩, 9) := ⟨⟨by decide +kernel, by decide +kernel⟩, lw_t1 (List.mem_of_getElem? (i := 57) rfl), lw_t3 (List.mem_of_getElem? (i := 126) rfl), lw_t3 (List.mem_of_getElem? (i := 127) rfl)⟩
theorem lw_p9 : lw_okq (⟨"java/util/ArrayList", "add", "(Ljava/lang/Object;[Ljava/lang/Object;I)V"⟩, 3) := ⟨⟨by decide +kernel, by decide +kernel⟩, lw_t1 (List.mem_of_getElem? (i := 120) rfl), lw_t3 (List.mem_of_getElem? (i := 154) rfl), lw_t3 (List.mem_of_getElem? (i := 155) rfl)⟩
theorem lw_p10 : lw_okq (⟨"java/util/ArrayList", "grow", "()[Ljava/lang/Object;"⟩, 3) := ⟨⟨by decide +kernel, by decide +kernel⟩, lw_t1 (List.mem_of_getElem? (i := 120) rfl), lw_t3 (List.mem_of_getElem? (i := 158) rfl), lw_t3 (List.mem_of_getElem? (i := 159) rfl)⟩
theorem lw_p11 : lw_okq (⟨"java/util/ArrayList", "grow", "(I)[Ljava/lang/Object;"⟩, 3) := ⟨⟨by decide +kernel, by decide +kernel⟩, lw_t1 (List.mem_of_getElem? (i := 120) rfl), lw_t3 (List.mem_of_getElem? (i := 162) rfl), lw_t3 (List.mem_of_getElem? (i := 163) rfl)⟩
theorem lw_p12 : lw_okq (⟨"LiarsCock$Reader", "place", "()V"⟩, 9) := ⟨⟨by decide +kernel, by decide +kernel⟩, lw_t1 (List.mem_of_getElem? (i := 57) rfl), lw_t3 (List.mem_of_getElem? (i := 219) rfl), lw_t3 (List.mem_of_getElem? (i := 220) rfl)⟩
theorem lw_p13 : lw_okq (⟨"LiarsCock$Reader", "takeWord", "(Ljava/lang/String;)V"⟩, 9) := ⟨⟨by decide +kernel, by decide +kernel⟩, lw_t1 (List.mem_of_getElem? (i := 57) rfl), lw_t3 (List.mem_of_getElem? (i := 223) rfl), lw_t3 (List.mem_of_getElem? (i := 224) rfl)⟩
theorem lw_p14 : lw_okq (⟨"LiarsCock$Reader", "hasWord", "(Ljava/lang/String;)Z"⟩, 9) := ⟨⟨by decide +kernel, by decide +kernel⟩, lw_t1 (List.mem_of_getElem? (i := 57) rfl), lw_t3 (List.mem_of_getElem? (i := 227) rfl), lw_t3 (List.mem_of_getElem? (i := 228) rfl)⟩
theorem lw_p15 : lw_okq (⟨"LiarsCock$Reader", "person", "()V"⟩, 9) := ⟨⟨by decide +kernel, by decide +kernel⟩, lw_t1 (List.mem_of_getElem? (i := 57) rfl), lw_t3 (List.mem_of_getElem? (i := 231) rfl), lw_t3 (List.mem_of_getElem? (i := 232) rfl)⟩
def lw_privs_1 : List (MethodName × Nat) := [(⟨"LiarsCock$Reader", "cut", "()V"⟩, 9), (⟨"LiarsCock$Reader", "isWord", "(Ljava/lang/String;)Z"⟩, 9), (⟨"LiarsCock$Reader", "fact", "()V"⟩, 9), (⟨"LiarsCock$Reader", "newName", "(Z)J"⟩, 9), (⟨"LiarsCock$Reader", "wrong", "(I)LLiarsCock$Wrong;"⟩, 9), (⟨"java/lang/Throwable", "fillInStackTrace", "(I)Ljava/lang/Throwable;"⟩, 6), (⟨"LiarsCock$Reader", "isName", "()Z"⟩, 9), (⟨"LiarsCock$Reader", "which", "([Ljava/lang/String;)I"⟩, 9), (⟨"LiarsCock$Reader", "number", "(II)I"⟩, 9), (⟨"java/util/ArrayList", "add", "(Ljava/lang/Object;[Ljava/lang/Object;I)V"⟩, 3), (⟨"java/util/ArrayList", "grow", "()[Ljava/lang/Object;"⟩, 3), (⟨"java/util/ArrayList", "grow", "(I)[Ljava/lang/Object;"⟩, 3), (⟨"LiarsCock$Reader", "place", "()V"⟩, 9), (⟨"LiarsCock$Reader", "takeWord", "(Ljava/lang/String;)V"⟩, 9), (⟨"LiarsCock$Reader", "hasWord", "(Ljava/lang/String;)Z"⟩, 9), (⟨"LiarsCock$Reader", "person", "()V"⟩, 9)]
theorem lw_r1 : ∀ q ∈ lw_privs_1, lw_okq q := List.forall_mem_cons.mpr ⟨lw_p0, List.forall_mem_cons.mpr ⟨lw_p1, List.forall_mem_cons.mpr ⟨lw_p2, List.forall_mem_cons.mpr ⟨lw_p3, List.forall_mem_cons.mpr ⟨lw_p4, List.forall_mem_cons.mpr ⟨lw_p5, List.forall_mem_cons.mpr ⟨lw_p6, List.forall_mem_cons.mpr ⟨lw_p7, List.forall_mem_cons.mpr ⟨lw_p8, List.forall_mem_cons.mpr ⟨lw_p9, List.forall_mem_cons.mpr ⟨lw_p10, List.forall_mem_cons.mpr ⟨lw_p11, List.forall_mem_cons.mpr ⟨lw_p12, List.forall_mem_cons.mpr ⟨lw_p13, List.forall_mem_cons.mpr ⟨lw_p14, List.forall_mem_cons.mpr ⟨lw_p15, fun _ h => absurd h List.not_mem_nil⟩⟩⟩⟩⟩⟩⟩⟩⟩⟩⟩⟩⟩⟩⟩⟩
theorem lw_p16 : lw_okq (⟨"LiarsCock$Reader", "named", "(Ljava/util/ArrayList;)I"⟩, 9) := ⟨⟨by decide +kernel, by decide +kernel⟩, lw_t1 (List.mem_of_getElem? (i := 57) rfl), lw_t3 (List.mem_of_getElem? (i := 237) rfl), lw_t3 (List.mem_of_getElem? (i := 238) rfl)⟩
theorem lw_p17 : lw_okq (⟨"LiarsCock$Reader", "common", "(Ljava/util/ArrayList;)V"⟩, 9) := ⟨⟨by decide +kernel, by decide +kernel⟩, lw_t1 (List.mem_of_getElem? (i := 57) rfl), lw_t4 (List.mem_of_getElem? (i := 20) rfl), lw_t4 (List.mem_of_getElem? (i := 21) rfl)⟩
theorem lw_p18 : lw_okq (⟨"LiarsCock$Reader", "whole", "()LLiarsCock$Expression;"⟩, 9) := ⟨⟨by decide +kernel, by decide +kernel⟩, lw_t1 (List.mem_of_getElem? (i := 57) rfl), lw_t4 (List.mem_of_getElem? (i := 24) rfl), lw_t4 (List.mem_of_getElem? (i := 25) rfl)⟩
theorem lw_p19 : lw_okq (⟨"LiarsCock$Reader", "all", "()LLiarsCock$Expression;"⟩, 9) := ⟨⟨by decide +kernel, by decide +kernel⟩, lw_t1 (List.mem_of_getElem? (i := 57) rfl), lw_t4 (List.mem_of_getElem? (i := 28) rfl), lw_t4 (List.mem_of_getElem? (i := 29) rfl)⟩
theorem lw_p20 : lw_okq (⟨"LiarsCock$Reader", "test", "()LLiarsCock$Expression;"⟩, 9) := ⟨⟨by decide +kernel, by decide +kernel⟩, lw_t1 (List.mem_of_getElem? (i := 57) rfl), lw_t4 (List.mem_of_getElem? (i := 32) rfl), lw_t4 (List.mem_of_getElem? (i := 33) rfl)⟩
theorem lw_p21 : lw_okq (⟨"LiarsCock$Reader", "sum", "()LLiarsCock$Expression;"⟩, 9) := ⟨⟨by decide +kernel, by decide +kernel⟩, lw_t1 (List.mem_of_getElem? (i := 57) rfl), lw_t4 (List.mem_of_getElem? (i := 36) rfl), lw_t4 (List.mem_of_getElem? (i := 37) rfl)⟩
theorem lw_p22 : lw_okq (⟨"LiarsCock$Reader", "term", "()LLiarsCock$Expression;"⟩, 9) := ⟨⟨by decide +kernel, by decide +kernel⟩, lw_t1 (List.mem_of_getElem? (i := 57) rfl), lw_t4 (List.mem_of_getElem? (i := 40) rfl), lw_t4 (List.mem_of_getElem? (i := 41) rfl)⟩
theorem lw_p23 : lw_okq (⟨"LiarsCock$Reader", "part", "()LLiarsCock$Expression;"⟩, 9) := ⟨⟨by decide +kernel, by decide +kernel⟩, lw_t1 (List.mem_of_getElem? (i := 57) rfl), lw_t4 (List.mem_of_getElem? (i := 44) rfl), lw_t4 (List.mem_of_getElem? (i := 45) rfl)⟩
theorem lw_p24 : lw_okq (⟨"LiarsCock$Reader", "isSign", "(I)Z"⟩, 9) := ⟨⟨by decide +kernel, by decide +kernel⟩, lw_t1 (List.mem_of_getElem? (i := 57) rfl), lw_t4 (List.mem_of_getElem? (i := 48) rfl), lw_t4 (List.mem_of_getElem? (i := 49) rfl)⟩
theorem lw_p25 : lw_okq (⟨"LiarsCock$Reader", "sign", "(I)V"⟩, 9) := ⟨⟨by decide +kernel, by decide +kernel⟩, lw_t1 (List.mem_of_getElem? (i := 57) rfl), lw_t4 (List.mem_of_getElem? (i := 85) rfl), lw_t4 (List.mem_of_getElem? (i := 86) rfl)⟩
theorem lw_p26 : lw_okq (⟨"LiarsCock$Reader", "hasSign", "(I)Z"⟩, 9) := ⟨⟨by decide +kernel, by decide +kernel⟩, lw_t1 (List.mem_of_getElem? (i := 57) rfl), lw_t4 (List.mem_of_getElem? (i := 89) rfl), lw_t4 (List.mem_of_getElem? (i := 90) rfl)⟩
theorem lw_p27 : lw_okq (⟨"LiarsCock$Reader", "cock", "()V"⟩, 9) := ⟨⟨by decide +kernel, by decide +kernel⟩, lw_t1 (List.mem_of_getElem? (i := 57) rfl), lw_t4 (List.mem_of_getElem? (i := 173) rfl), lw_t4 (List.mem_of_getElem? (i := 174) rfl)⟩
theorem lw_p28 : lw_okq (⟨"LiarsCock", "isWorld", "(I)Z"⟩, 11) := ⟨⟨by decide +kernel, by decide +kernel⟩, lw_t1 (List.mem_of_getElem? (i := 49) rfl), lw_t5 (List.mem_of_getElem? (i := 19) rfl), lw_t5 (List.mem_of_getElem? (i := 20) rfl)⟩
theorem lw_p29 : lw_okq (⟨"LiarsCock", "isPerson", "(I)Z"⟩, 11) := ⟨⟨by decide +kernel, by decide +kernel⟩, lw_t1 (List.mem_of_getElem? (i := 49) rfl), lw_t5 (List.mem_of_getElem? (i := 29) rfl), lw_t5 (List.mem_of_getElem? (i := 30) rfl)⟩
theorem lw_p30 : lw_okq (⟨"LiarsCock", "last", "()I"⟩, 11) := ⟨⟨by decide +kernel, by decide +kernel⟩, lw_t1 (List.mem_of_getElem? (i := 49) rfl), lw_t5 (List.mem_of_getElem? (i := 37) rfl), lw_t5 (List.mem_of_getElem? (i := 38) rfl)⟩
theorem lw_p31 : lw_okq (⟨"LiarsCock", "told", "(Ljava/util/ArrayList;ZII)I"⟩, 11) := ⟨⟨by decide +kernel, by decide +kernel⟩, lw_t1 (List.mem_of_getElem? (i := 49) rfl), lw_t5 (List.mem_of_getElem? (i := 47) rfl), lw_t5 (List.mem_of_getElem? (i := 48) rfl)⟩
def lw_privs_2 : List (MethodName × Nat) := [(⟨"LiarsCock$Reader", "named", "(Ljava/util/ArrayList;)I"⟩, 9), (⟨"LiarsCock$Reader", "common", "(Ljava/util/ArrayList;)V"⟩, 9), (⟨"LiarsCock$Reader", "whole", "()LLiarsCock$Expression;"⟩, 9), (⟨"LiarsCock$Reader", "all", "()LLiarsCock$Expression;"⟩, 9), (⟨"LiarsCock$Reader", "test", "()LLiarsCock$Expression;"⟩, 9), (⟨"LiarsCock$Reader", "sum", "()LLiarsCock$Expression;"⟩, 9), (⟨"LiarsCock$Reader", "term", "()LLiarsCock$Expression;"⟩, 9), (⟨"LiarsCock$Reader", "part", "()LLiarsCock$Expression;"⟩, 9), (⟨"LiarsCock$Reader", "isSign", "(I)Z"⟩, 9), (⟨"LiarsCock$Reader", "sign", "(I)V"⟩, 9), (⟨"LiarsCock$Reader", "hasSign", "(I)Z"⟩, 9), (⟨"LiarsCock$Reader", "cock", "()V"⟩, 9), (⟨"LiarsCock", "isWorld", "(I)Z"⟩, 11), (⟨"LiarsCock", "isPerson", "(I)Z"⟩, 11), (⟨"LiarsCock", "last", "()I"⟩, 11), (⟨"LiarsCock", "told", "(Ljava/util/ArrayList;ZII)I"⟩, 11)]
theorem lw_r2 : ∀ q ∈ lw_privs_2, lw_okq q := List.forall_mem_cons.mpr ⟨lw_p16, List.forall_mem_cons.mpr ⟨lw_p17, List.forall_mem_cons.mpr ⟨lw_p18, List.forall_mem_cons.mpr ⟨lw_p19, List.forall_mem_cons.mpr ⟨lw_p20, List.forall_mem_cons.mpr ⟨lw_p21, List.forall_mem_cons.mpr ⟨lw_p22, List.forall_mem_cons.mpr ⟨lw_p23, List.forall_mem_cons.mpr ⟨lw_p24, List.forall_mem_cons.mpr ⟨lw_p25, List.forall_mem_cons.mpr ⟨lw_p26, List.forall_mem_cons.mpr ⟨lw_p27, List.forall_mem_cons.mpr ⟨lw_p28, List.forall_mem_cons.mpr ⟨lw_p29, List.forall_mem_cons.mpr ⟨lw_p30, List.forall_mem_cons.mpr ⟨lw_p31, fun _ h => absurd h List.not_mem_nil⟩⟩⟩⟩⟩⟩⟩⟩⟩⟩⟩⟩⟩⟩⟩⟩
theorem lw_p32 : lw_okq (⟨"LiarsCock", "isCock", "(I)Z"⟩, 11) := ⟨⟨by decide +kernel, by decide +kernel⟩, lw_t1 (List.mem_of_getElem? (i := 49) rfl), lw_t5 (List.mem_of_getElem? (i := 99) rfl), lw_t5 (List.mem_of_getElem? (i := 100) rfl)⟩
theorem lw_p33 : lw_okq (⟨"LiarsCock", "pointsAt", "(III)I"⟩, 11) := ⟨⟨by decide +kernel, by decide +kernel⟩, lw_t1 (List.mem_of_getElem? (i := 49) rfl), lw_t5 (List.mem_of_getElem? (i := 103) rfl), lw_t5 (List.mem_of_getElem? (i := 104) rfl)⟩
theorem lw_p34 : lw_okq (⟨"LiarsCock", "lastLie", "(III)LLiarsCock$Saying;"⟩, 11) := ⟨⟨by decide +kernel, by decide +kernel⟩, lw_t1 (List.mem_of_getElem? (i := 49) rfl), lw_t5 (List.mem_of_getElem? (i := 107) rfl), lw_t5 (List.mem_of_getElem? (i := 108) rfl)⟩
theorem lw_p35 : lw_okq (⟨"LiarsCock", "isSaying", "(I)Z"⟩, 11) := ⟨⟨by decide +kernel, by decide +kernel⟩, lw_t1 (List.mem_of_getElem? (i := 49) rfl), lw_t5 (List.mem_of_getElem? (i := 123) rfl), lw_t5 (List.mem_of_getElem? (i := 124) rfl)⟩
theorem lw_p36 : lw_okq (⟨"LiarsCock", "canBe", "()J"⟩, 11) := ⟨⟨by decide +kernel, by decide +kernel⟩, lw_t1 (List.mem_of_getElem? (i := 49) rfl), lw_t5 (List.mem_of_getElem? (i := 164) rfl), lw_t5 (List.mem_of_getElem? (i := 165) rfl)⟩
theorem lw_p37 : lw_okq (⟨"LiarsCock", "allLooks", "()I"⟩, 11) := ⟨⟨by decide +kernel, by decide +kernel⟩, lw_t1 (List.mem_of_getElem? (i := 49) rfl), lw_t5 (List.mem_of_getElem? (i := 168) rfl), lw_t5 (List.mem_of_getElem? (i := 169) rfl)⟩
theorem lw_p38 : lw_okq (⟨"LiarsCock", "canBe", "(I)J"⟩, 11) := ⟨⟨by decide +kernel, by decide +kernel⟩, lw_t1 (List.mem_of_getElem? (i := 49) rfl), lw_t5 (List.mem_of_getElem? (i := 172) rfl), lw_t5 (List.mem_of_getElem? (i := 173) rfl)⟩
theorem lw_p39 : lw_okq (⟨"LiarsCock", "fits", "(LLiarsCock$Look;)J"⟩, 11) := ⟨⟨by decide +kernel, by decide +kernel⟩, lw_t1 (List.mem_of_getElem? (i := 49) rfl), lw_t5 (List.mem_of_getElem? (i := 176) rfl), lw_t5 (List.mem_of_getElem? (i := 177) rfl)⟩
theorem lw_p40 : lw_okq (⟨"LiarsCock", "bearingAt", "(III)I"⟩, 11) := ⟨⟨by decide +kernel, by decide +kernel⟩, lw_t1 (List.mem_of_getElem? (i := 49) rfl), lw_t5 (List.mem_of_getElem? (i := 180) rfl), lw_t5 (List.mem_of_getElem? (i := 181) rfl)⟩
theorem lw_p41 : lw_okq (⟨"LiarsCock", "isFact", "(I)Z"⟩, 11) := ⟨⟨by decide +kernel, by decide +kernel⟩, lw_t1 (List.mem_of_getElem? (i := 49) rfl), lw_t5 (List.mem_of_getElem? (i := 200) rfl), lw_t5 (List.mem_of_getElem? (i := 201) rfl)⟩
theorem lw_p42 : lw_okq (⟨"LiarsCock", "with", "(I)J"⟩, 11) := ⟨⟨by decide +kernel, by decide +kernel⟩, lw_t1 (List.mem_of_getElem? (i := 49) rfl), lw_t5 (List.mem_of_getElem? (i := 204) rfl), lw_t5 (List.mem_of_getElem? (i := 205) rfl)⟩
theorem lw_p43 : lw_okq (⟨"LiarsCock", "weight", "(I)J"⟩, 11) := ⟨⟨by decide +kernel, by decide +kernel⟩, lw_t1 (List.mem_of_getElem? (i := 49) rfl), lw_t5 (List.mem_of_getElem? (i := 230) rfl), lw_t5 (List.mem_of_getElem? (i := 231) rfl)⟩
theorem lw_p44 : lw_okq (⟨"LiarsCock", "when", "(IIIIZ)I"⟩, 11) := ⟨⟨by decide +kernel, by decide +kernel⟩, lw_t1 (List.mem_of_getElem? (i := 49) rfl), lw_t6 (List.mem_of_getElem? (i := 32) rfl), lw_t6 (List.mem_of_getElem? (i := 33) rfl)⟩
theorem lw_p45 : lw_okq (⟨"LiarsCock", "seen", "(JIIII)I"⟩, 11) := ⟨⟨by decide +kernel, by decide +kernel⟩, lw_t1 (List.mem_of_getElem? (i := 49) rfl), lw_t6 (List.mem_of_getElem? (i := 61) rfl), lw_t6 (List.mem_of_getElem? (i := 62) rfl)⟩
theorem lw_p46 : lw_okq (⟨"LiarsCock", "isHidable", "(I)Z"⟩, 11) := ⟨⟨by decide +kernel, by decide +kernel⟩, lw_t1 (List.mem_of_getElem? (i := 49) rfl), lw_t6 (List.mem_of_getElem? (i := 92) rfl), lw_t6 (List.mem_of_getElem? (i := 93) rfl)⟩
theorem lw_p47 : lw_okq (⟨"LiarsCock", "areOffers", "(I)Z"⟩, 11) := ⟨⟨by decide +kernel, by decide +kernel⟩, lw_t1 (List.mem_of_getElem? (i := 49) rfl), lw_t6 (List.mem_of_getElem? (i := 96) rfl), lw_t6 (List.mem_of_getElem? (i := 97) rfl)⟩
def lw_privs_3 : List (MethodName × Nat) := [(⟨"LiarsCock", "isCock", "(I)Z"⟩, 11), (⟨"LiarsCock", "pointsAt", "(III)I"⟩, 11), (⟨"LiarsCock", "lastLie", "(III)LLiarsCock$Saying;"⟩, 11), (⟨"LiarsCock", "isSaying", "(I)Z"⟩, 11), (⟨"LiarsCock", "canBe", "()J"⟩, 11), (⟨"LiarsCock", "allLooks", "()I"⟩, 11), (⟨"LiarsCock", "canBe", "(I)J"⟩, 11), (⟨"LiarsCock", "fits", "(LLiarsCock$Look;)J"⟩, 11), (⟨"LiarsCock", "bearingAt", "(III)I"⟩, 11), (⟨"LiarsCock", "isFact", "(I)Z"⟩, 11), (⟨"LiarsCock", "with", "(I)J"⟩, 11), (⟨"LiarsCock", "weight", "(I)J"⟩, 11), (⟨"LiarsCock", "when", "(IIIIZ)I"⟩, 11), (⟨"LiarsCock", "seen", "(JIIII)I"⟩, 11), (⟨"LiarsCock", "isHidable", "(I)Z"⟩, 11), (⟨"LiarsCock", "areOffers", "(I)Z"⟩, 11)]
theorem lw_r3 : ∀ q ∈ lw_privs_3, lw_okq q := List.forall_mem_cons.mpr ⟨lw_p32, List.forall_mem_cons.mpr ⟨lw_p33, List.forall_mem_cons.mpr ⟨lw_p34, List.forall_mem_cons.mpr ⟨lw_p35, List.forall_mem_cons.mpr ⟨lw_p36, List.forall_mem_cons.mpr ⟨lw_p37, List.forall_mem_cons.mpr ⟨lw_p38, List.forall_mem_cons.mpr ⟨lw_p39, List.forall_mem_cons.mpr ⟨lw_p40, List.forall_mem_cons.mpr ⟨lw_p41, List.forall_mem_cons.mpr ⟨lw_p42, List.forall_mem_cons.mpr ⟨lw_p43, List.forall_mem_cons.mpr ⟨lw_p44, List.forall_mem_cons.mpr ⟨lw_p45, List.forall_mem_cons.mpr ⟨lw_p46, List.forall_mem_cons.mpr ⟨lw_p47, fun _ h => absurd h List.not_mem_nil⟩⟩⟩⟩⟩⟩⟩⟩⟩⟩⟩⟩⟩⟩⟩⟩
theorem lw_p48 : lw_okq (⟨"LiarsCock", "isHidden", "(II)Z"⟩, 11) := ⟨⟨by decide +kernel, by decide +kernel⟩, lw_t1 (List.mem_of_getElem? (i := 49) rfl), lw_t6 (List.mem_of_getElem? (i := 100) rfl), lw_t6 (List.mem_of_getElem? (i := 101) rfl)⟩
theorem lw_p49 : lw_okq (⟨"LiarsCock", "isAlike", "(II)Z"⟩, 11) := ⟨⟨by decide +kernel, by decide +kernel⟩, lw_t1 (List.mem_of_getElem? (i := 49) rfl), lw_t6 (List.mem_of_getElem? (i := 104) rfl), lw_t6 (List.mem_of_getElem? (i := 105) rfl)⟩
theorem lw_p50 : lw_okq (⟨"LiarsCock", "watched", "(LLiarsCock$Look;II)I"⟩, 11) := ⟨⟨by decide +kernel, by decide +kernel⟩, lw_t1 (List.mem_of_getElem? (i := 49) rfl), lw_t6 (List.mem_of_getElem? (i := 108) rfl), lw_t6 (List.mem_of_getElem? (i := 109) rfl)⟩
theorem lw_p51 : lw_okq (⟨"LiarsCock", "lastWith", "(IIII)LLiarsCock$Saying;"⟩, 11) := ⟨⟨by decide +kernel, by decide +kernel⟩, lw_t1 (List.mem_of_getElem? (i := 49) rfl), lw_t6 (List.mem_of_getElem? (i := 112) rfl), lw_t6 (List.mem_of_getElem? (i := 113) rfl)⟩
theorem lw_p52 : lw_okq (⟨"LiarsCock", "crowd", "(II)I"⟩, 11) := ⟨⟨by decide +kernel, by decide +kernel⟩, lw_t1 (List.mem_of_getElem? (i := 49) rfl), lw_t6 (List.mem_of_getElem? (i := 129) rfl), lw_t6 (List.mem_of_getElem? (i := 130) rfl)⟩
theorem lw_p53 : lw_okq (⟨"LiarsCock", "areBlind", "(III)Z"⟩, 11) := ⟨⟨by decide +kernel, by decide +kernel⟩, lw_t1 (List.mem_of_getElem? (i := 49) rfl), lw_t6 (List.mem_of_getElem? (i := 133) rfl), lw_t6 (List.mem_of_getElem? (i := 134) rfl)⟩
theorem lw_p54 : lw_okq (⟨"LiarsCock", "everybody", "()I"⟩, 11) := ⟨⟨by decide +kernel, by decide +kernel⟩, lw_t1 (List.mem_of_getElem? (i := 49) rfl), lw_t6 (List.mem_of_getElem? (i := 142) rfl), lw_t6 (List.mem_of_getElem? (i := 143) rfl)⟩
theorem lw_p55 : lw_okq (⟨"LiarsCock", "toldBy", "(I)I"⟩, 11) := ⟨⟨by decide +kernel, by decide +kernel⟩, lw_t1 (List.mem_of_getElem? (i := 49) rfl), lw_t6 (List.mem_of_getElem? (i := 146) rfl), lw_t6 (List.mem_of_getElem? (i := 147) rfl)⟩
theorem lw_p56 : lw_okq (⟨"LiarsCock", "knownBy", "(I)I"⟩, 11) := ⟨⟨by decide +kernel, by decide +kernel⟩, lw_t1 (List.mem_of_getElem? (i := 49) rfl), lw_t6 (List.mem_of_getElem? (i := 150) rfl), lw_t6 (List.mem_of_getElem? (i := 151) rfl)⟩
theorem lw_p57 : lw_okq (⟨"LiarsCock$Lookout", "find", "(IJ)V"⟩, 7) := ⟨⟨by decide +kernel, by decide +kernel⟩, lw_t2 (List.mem_of_getElem? (i := 27) rfl), lw_t6 (List.mem_of_getElem? (i := 170) rfl), lw_t6 (List.mem_of_getElem? (i := 171) rfl)⟩
theorem lw_p58 : lw_okq (⟨"LiarsCock$Lookout", "mayTurn", "(I)Z"⟩, 7) := ⟨⟨by decide +kernel, by decide +kernel⟩, lw_t2 (List.mem_of_getElem? (i := 27) rfl), lw_t6 (List.mem_of_getElem? (i := 175) rfl), lw_t6 (List.mem_of_getElem? (i := 176) rfl)⟩
theorem lw_p59 : lw_okq (⟨"LiarsCock$Lookout", "tells", "(III)Z"⟩, 7) := ⟨⟨by decide +kernel, by decide +kernel⟩, lw_t2 (List.mem_of_getElem? (i := 27) rfl), lw_t6 (List.mem_of_getElem? (i := 182) rfl), lw_t6 (List.mem_of_getElem? (i := 183) rfl)⟩
theorem lw_p60 : lw_okq (⟨"LiarsCock$Lookout", "partsAll", "(I)Z"⟩, 7) := ⟨⟨by decide +kernel, by decide +kernel⟩, lw_t2 (List.mem_of_getElem? (i := 27) rfl), lw_t6 (List.mem_of_getElem? (i := 186) rfl), lw_t6 (List.mem_of_getElem? (i := 187) rfl)⟩
theorem lw_p61 : lw_okq (⟨"LiarsCock$Lookout", "parts", "(III)Z"⟩, 7) := ⟨⟨by decide +kernel, by decide +kernel⟩, lw_t2 (List.mem_of_getElem? (i := 27) rfl), lw_t6 (List.mem_of_getElem? (i := 191) rfl), lw_t6 (List.mem_of_getElem? (i := 192) rfl)⟩
theorem lw_p62 : lw_okq (⟨"LiarsCockModel", "forgets", "()V"⟩, 69) := ⟨⟨by decide +kernel, by decide +kernel⟩, lw_t7 (List.mem_of_getElem? (i := 47) rfl), lw_t7 (List.mem_of_getElem? (i := 53) rfl), lw_t7 (List.mem_of_getElem? (i := 54) rfl)⟩
theorem lw_p63 : lw_okq (⟨"LiarsCockModel", "starts", "()V"⟩, 69) := ⟨⟨by decide +kernel, by decide +kernel⟩, lw_t7 (List.mem_of_getElem? (i := 47) rfl), lw_t8 (List.mem_of_getElem? (i := 39) rfl), lw_t8 (List.mem_of_getElem? (i := 40) rfl)⟩
def lw_privs_4 : List (MethodName × Nat) := [(⟨"LiarsCock", "isHidden", "(II)Z"⟩, 11), (⟨"LiarsCock", "isAlike", "(II)Z"⟩, 11), (⟨"LiarsCock", "watched", "(LLiarsCock$Look;II)I"⟩, 11), (⟨"LiarsCock", "lastWith", "(IIII)LLiarsCock$Saying;"⟩, 11), (⟨"LiarsCock", "crowd", "(II)I"⟩, 11), (⟨"LiarsCock", "areBlind", "(III)Z"⟩, 11), (⟨"LiarsCock", "everybody", "()I"⟩, 11), (⟨"LiarsCock", "toldBy", "(I)I"⟩, 11), (⟨"LiarsCock", "knownBy", "(I)I"⟩, 11), (⟨"LiarsCock$Lookout", "find", "(IJ)V"⟩, 7), (⟨"LiarsCock$Lookout", "mayTurn", "(I)Z"⟩, 7), (⟨"LiarsCock$Lookout", "tells", "(III)Z"⟩, 7), (⟨"LiarsCock$Lookout", "partsAll", "(I)Z"⟩, 7), (⟨"LiarsCock$Lookout", "parts", "(III)Z"⟩, 7), (⟨"LiarsCockModel", "forgets", "()V"⟩, 69), (⟨"LiarsCockModel", "starts", "()V"⟩, 69)]
theorem lw_r4 : ∀ q ∈ lw_privs_4, lw_okq q := List.forall_mem_cons.mpr ⟨lw_p48, List.forall_mem_cons.mpr ⟨lw_p49, List.forall_mem_cons.mpr ⟨lw_p50, List.forall_mem_cons.mpr ⟨lw_p51, List.forall_mem_cons.mpr ⟨lw_p52, List.forall_mem_cons.mpr ⟨lw_p53, List.forall_mem_cons.mpr ⟨lw_p54, List.forall_mem_cons.mpr ⟨lw_p55, List.forall_mem_cons.mpr ⟨lw_p56, List.forall_mem_cons.mpr ⟨lw_p57, List.forall_mem_cons.mpr ⟨lw_p58, List.forall_mem_cons.mpr ⟨lw_p59, List.forall_mem_cons.mpr ⟨lw_p60, List.forall_mem_cons.mpr ⟨lw_p61, List.forall_mem_cons.mpr ⟨lw_p62, List.forall_mem_cons.mpr ⟨lw_p63, fun _ h => absurd h List.not_mem_nil⟩⟩⟩⟩⟩⟩⟩⟩⟩⟩⟩⟩⟩⟩⟩⟩
theorem lw_p64 : lw_okq (⟨"LiarsCockModel", "nextToken", "()V"⟩, 69) := ⟨⟨by decide +kernel, by decide +kernel⟩, lw_t7 (List.mem_of_getElem? (i := 47) rfl), lw_t8 (List.mem_of_getElem? (i := 43) rfl), lw_t8 (List.mem_of_getElem? (i := 44) rfl)⟩
theorem lw_p65 : lw_okq (⟨"LiarsCockModel", "signAt", "(I)I"⟩, 69) := ⟨⟨by decide +kernel, by decide +kernel⟩, lw_t7 (List.mem_of_getElem? (i := 47) rfl), lw_t8 (List.mem_of_getElem? (i := 47) rfl), lw_t8 (List.mem_of_getElem? (i := 48) rfl)⟩
theorem lw_p66 : lw_okq (⟨"LiarsCockModel", "readsParish", "()Z"⟩, 69) := ⟨⟨by decide +kernel, by decide +kernel⟩, lw_t7 (List.mem_of_getElem? (i := 47) rfl), lw_t8 (List.mem_of_getElem? (i := 53) rfl), lw_t8 (List.mem_of_getElem? (i := 54) rfl)⟩
theorem lw_p67 : lw_okq (⟨"LiarsCockModel", "isWord", "(J)Z"⟩, 69) := ⟨⟨by decide +kernel, by decide +kernel⟩, lw_t7 (List.mem_of_getElem? (i := 47) rfl), lw_t8 (List.mem_of_getElem? (i := 58) rfl), lw_t8 (List.mem_of_getElem? (i := 59) rfl)⟩
theorem lw_p68 : lw_okq (⟨"LiarsCockModel", "readsFact", "()Z"⟩, 69) := ⟨⟨by decide +kernel, by decide +kernel⟩, lw_t7 (List.mem_of_getElem? (i := 47) rfl), lw_t8 (List.mem_of_getElem? (i := 62) rfl), lw_t8 (List.mem_of_getElem? (i := 63) rfl)⟩
theorem lw_p69 : lw_okq (⟨"LiarsCockModel", "fails", "(I)Z"⟩, 69) := ⟨⟨by decide +kernel, by decide +kernel⟩, lw_t7 (List.mem_of_getElem? (i := 47) rfl), lw_t8 (List.mem_of_getElem? (i := 66) rfl), lw_t8 (List.mem_of_getElem? (i := 67) rfl)⟩
theorem lw_p70 : lw_okq (⟨"LiarsCockModel", "needsNew", "(I)Z"⟩, 69) := ⟨⟨by decide +kernel, by decide +kernel⟩, lw_t7 (List.mem_of_getElem? (i := 47) rfl), lw_t8 (List.mem_of_getElem? (i := 70) rfl), lw_t8 (List.mem_of_getElem? (i := 71) rfl)⟩
theorem lw_p71 : lw_okq (⟨"LiarsCockModel", "isKept", "()Z"⟩, 69) := ⟨⟨by decide +kernel, by decide +kernel⟩, lw_t7 (List.mem_of_getElem? (i := 47) rfl), lw_t8 (List.mem_of_getElem? (i := 74) rfl), lw_t8 (List.mem_of_getElem? (i := 75) rfl)⟩
theorem lw_p72 : lw_okq (⟨"LiarsCockModel", "whichOf", "(I)I"⟩, 69) := ⟨⟨by decide +kernel, by decide +kernel⟩, lw_t7 (List.mem_of_getElem? (i := 47) rfl), lw_t8 (List.mem_of_getElem? (i := 91) rfl), lw_t8 (List.mem_of_getElem? (i := 92) rfl)⟩
theorem lw_p73 : lw_okq (⟨"LiarsCockModel", "needsNumber", "(I)Z"⟩, 69) := ⟨⟨by decide +kernel, by decide +kernel⟩, lw_t7 (List.mem_of_getElem? (i := 47) rfl), lw_t8 (List.mem_of_getElem? (i := 95) rfl), lw_t8 (List.mem_of_getElem? (i := 96) rfl)⟩
theorem lw_p74 : lw_okq (⟨"LiarsCockModel", "ends", "()Z"⟩, 69) := ⟨⟨by decide +kernel, by decide +kernel⟩, lw_t7 (List.mem_of_getElem? (i := 47) rfl), lw_t8 (List.mem_of_getElem? (i := 99) rfl), lw_t8 (List.mem_of_getElem? (i := 100) rfl)⟩
theorem lw_p75 : lw_okq (⟨"LiarsCockModel", "isSign", "(I)Z"⟩, 69) := ⟨⟨by decide +kernel, by decide +kernel⟩, lw_t7 (List.mem_of_getElem? (i := 47) rfl), lw_t8 (List.mem_of_getElem? (i := 103) rfl), lw_t8 (List.mem_of_getElem? (i := 104) rfl)⟩
theorem lw_p76 : lw_okq (⟨"LiarsCockModel", "readsPlace", "()Z"⟩, 69) := ⟨⟨by decide +kernel, by decide +kernel⟩, lw_t7 (List.mem_of_getElem? (i := 47) rfl), lw_t8 (List.mem_of_getElem? (i := 107) rfl), lw_t8 (List.mem_of_getElem? (i := 108) rfl)⟩
theorem lw_p77 : lw_okq (⟨"LiarsCockModel", "needsWord", "(J)Z"⟩, 69) := ⟨⟨by decide +kernel, by decide +kernel⟩, lw_t7 (List.mem_of_getElem? (i := 47) rfl), lw_t8 (List.mem_of_getElem? (i := 111) rfl), lw_t8 (List.mem_of_getElem? (i := 112) rfl)⟩
theorem lw_p78 : lw_okq (⟨"LiarsCockModel", "readsPerson", "()Z"⟩, 69) := ⟨⟨by decide +kernel, by decide +kernel⟩, lw_t7 (List.mem_of_getElem? (i := 47) rfl), lw_t8 (List.mem_of_getElem? (i := 115) rfl), lw_t8 (List.mem_of_getElem? (i := 116) rfl)⟩
theorem lw_p79 : lw_okq (⟨"LiarsCockModel", "readsCock", "()Z"⟩, 69) := ⟨⟨by decide +kernel, by decide +kernel⟩, lw_t7 (List.mem_of_getElem? (i := 47) rfl), lw_t8 (List.mem_of_getElem? (i := 119) rfl), lw_t8 (List.mem_of_getElem? (i := 120) rfl)⟩
def lw_privs_5 : List (MethodName × Nat) := [(⟨"LiarsCockModel", "nextToken", "()V"⟩, 69), (⟨"LiarsCockModel", "signAt", "(I)I"⟩, 69), (⟨"LiarsCockModel", "readsParish", "()Z"⟩, 69), (⟨"LiarsCockModel", "isWord", "(J)Z"⟩, 69), (⟨"LiarsCockModel", "readsFact", "()Z"⟩, 69), (⟨"LiarsCockModel", "fails", "(I)Z"⟩, 69), (⟨"LiarsCockModel", "needsNew", "(I)Z"⟩, 69), (⟨"LiarsCockModel", "isKept", "()Z"⟩, 69), (⟨"LiarsCockModel", "whichOf", "(I)I"⟩, 69), (⟨"LiarsCockModel", "needsNumber", "(I)Z"⟩, 69), (⟨"LiarsCockModel", "ends", "()Z"⟩, 69), (⟨"LiarsCockModel", "isSign", "(I)Z"⟩, 69), (⟨"LiarsCockModel", "readsPlace", "()Z"⟩, 69), (⟨"LiarsCockModel", "needsWord", "(J)Z"⟩, 69), (⟨"LiarsCockModel", "readsPerson", "()Z"⟩, 69), (⟨"LiarsCockModel", "readsCock", "()Z"⟩, 69)]
theorem lw_r5 : ∀ q ∈ lw_privs_5, lw_okq q := List.forall_mem_cons.mpr ⟨lw_p64, List.forall_mem_cons.mpr ⟨lw_p65, List.forall_mem_cons.mpr ⟨lw_p66, List.forall_mem_cons.mpr ⟨lw_p67, List.forall_mem_cons.mpr ⟨lw_p68, List.forall_mem_cons.mpr ⟨lw_p69, List.forall_mem_cons.mpr ⟨lw_p70, List.forall_mem_cons.mpr ⟨lw_p71, List.forall_mem_cons.mpr ⟨lw_p72, List.forall_mem_cons.mpr ⟨lw_p73, List.forall_mem_cons.mpr ⟨lw_p74, List.forall_mem_cons.mpr ⟨lw_p75, List.forall_mem_cons.mpr ⟨lw_p76, List.forall_mem_cons.mpr ⟨lw_p77, List.forall_mem_cons.mpr ⟨lw_p78, List.forall_mem_cons.mpr ⟨lw_p79, fun _ h => absurd h List.not_mem_nil⟩⟩⟩⟩⟩⟩⟩⟩⟩⟩⟩⟩⟩⟩⟩⟩
theorem lw_p80 : lw_okq (⟨"LiarsCockModel", "readsCommon", "()Z"⟩, 69) := ⟨⟨by decide +kernel, by decide +kernel⟩, lw_t7 (List.mem_of_getElem? (i := 47) rfl), lw_t8 (List.mem_of_getElem? (i := 123) rfl), lw_t8 (List.mem_of_getElem? (i := 124) rfl)⟩
theorem lw_p81 : lw_okq (⟨"LiarsCockModel", "reads", "(Z)Z"⟩, 69) := ⟨⟨by decide +kernel, by decide +kernel⟩, lw_t7 (List.mem_of_getElem? (i := 47) rfl), lw_t8 (List.mem_of_getElem? (i := 127) rfl), lw_t8 (List.mem_of_getElem? (i := 128) rfl)⟩
theorem lw_p82 : lw_okq (⟨"LiarsCockModel", "puts", "(I)V"⟩, 69) := ⟨⟨by decide +kernel, by decide +kernel⟩, lw_t7 (List.mem_of_getElem? (i := 47) rfl), lw_t8 (List.mem_of_getElem? (i := 131) rfl), lw_t8 (List.mem_of_getElem? (i := 132) rfl)⟩
theorem lw_p83 : lw_okq (⟨"LiarsCockModel", "soIn", "(I)J"⟩, 69) := ⟨⟨by decide +kernel, by decide +kernel⟩, lw_t7 (List.mem_of_getElem? (i := 47) rfl), lw_t8 (List.mem_of_getElem? (i := 135) rfl), lw_t8 (List.mem_of_getElem? (i := 136) rfl)⟩
theorem lw_p84 : lw_okq (⟨"LiarsCockModel", "worked", "(I)I"⟩, 69) := ⟨⟨by decide +kernel, by decide +kernel⟩, lw_t7 (List.mem_of_getElem? (i := 47) rfl), lw_t8 (List.mem_of_getElem? (i := 139) rfl), lw_t8 (List.mem_of_getElem? (i := 140) rfl)⟩
theorem lw_p85 : lw_okq (⟨"LiarsCockModel", "opens", "(I)V"⟩, 69) := ⟨⟨by decide +kernel, by decide +kernel⟩, lw_t7 (List.mem_of_getElem? (i := 47) rfl), lw_t8 (List.mem_of_getElem? (i := 143) rfl), lw_t8 (List.mem_of_getElem? (i := 144) rfl)⟩
theorem lw_p86 : lw_okq (⟨"LiarsCockModel", "sums", "(I)V"⟩, 69) := ⟨⟨by decide +kernel, by decide +kernel⟩, lw_t7 (List.mem_of_getElem? (i := 47) rfl), lw_t8 (List.mem_of_getElem? (i := 147) rfl), lw_t8 (List.mem_of_getElem? (i := 148) rfl)⟩
theorem lw_p87 : lw_okq (⟨"LiarsCockModel", "tests", "(I)V"⟩, 69) := ⟨⟨by decide +kernel, by decide +kernel⟩, lw_t7 (List.mem_of_getElem? (i := 47) rfl), lw_t8 (List.mem_of_getElem? (i := 151) rfl), lw_t8 (List.mem_of_getElem? (i := 152) rfl)⟩
theorem lw_p88 : lw_okq (⟨"LiarsCockModel", "allWorlds", "()J"⟩, 69) := ⟨⟨by decide +kernel, by decide +kernel⟩, lw_t7 (List.mem_of_getElem? (i := 47) rfl), lw_t8 (List.mem_of_getElem? (i := 155) rfl), lw_t8 (List.mem_of_getElem? (i := 156) rfl)⟩
theorem lw_p89 : lw_okq (⟨"LiarsCockModel", "isPerson", "(I)Z"⟩, 69) := ⟨⟨by decide +kernel, by decide +kernel⟩, lw_t7 (List.mem_of_getElem? (i := 47) rfl), lw_t8 (List.mem_of_getElem? (i := 164) rfl), lw_t8 (List.mem_of_getElem? (i := 165) rfl)⟩
theorem lw_p90 : lw_okq (⟨"LiarsCockModel", "lays", "(III)I"⟩, 69) := ⟨⟨by decide +kernel, by decide +kernel⟩, lw_t7 (List.mem_of_getElem? (i := 47) rfl), lw_t8 (List.mem_of_getElem? (i := 171) rfl), lw_t8 (List.mem_of_getElem? (i := 172) rfl)⟩
theorem lw_p91 : lw_okq (⟨"LiarsCockModel", "isWorld", "(I)Z"⟩, 69) := ⟨⟨by decide +kernel, by decide +kernel⟩, lw_t7 (List.mem_of_getElem? (i := 47) rfl), lw_t8 (List.mem_of_getElem? (i := 183) rfl), lw_t8 (List.mem_of_getElem? (i := 184) rfl)⟩
theorem lw_p92 : lw_okq (⟨"LiarsCockModel", "isLie", "(III)Z"⟩, 69) := ⟨⟨by decide +kernel, by decide +kernel⟩, lw_t7 (List.mem_of_getElem? (i := 47) rfl), lw_t8 (List.mem_of_getElem? (i := 194) rfl), lw_t8 (List.mem_of_getElem? (i := 195) rfl)⟩
theorem lw_p93 : lw_okq (⟨"LiarsCockModel", "likeFor", "(II)J"⟩, 69) := ⟨⟨by decide +kernel, by decide +kernel⟩, lw_t7 (List.mem_of_getElem? (i := 47) rfl), lw_t8 (List.mem_of_getElem? (i := 198) rfl), lw_t8 (List.mem_of_getElem? (i := 199) rfl)⟩
theorem lw_p94 : lw_okq (⟨"LiarsCockModel", "isThere", "(I)Z"⟩, 69) := ⟨⟨by decide +kernel, by decide +kernel⟩, lw_t7 (List.mem_of_getElem? (i := 47) rfl), lw_t8 (List.mem_of_getElem? (i := 206) rfl), lw_t8 (List.mem_of_getElem? (i := 207) rfl)⟩
theorem lw_p95 : lw_okq (⟨"LiarsCockModel", "rows", "(I)V"⟩, 69) := ⟨⟨by decide +kernel, by decide +kernel⟩, lw_t7 (List.mem_of_getElem? (i := 47) rfl), lw_t8 (List.mem_of_getElem? (i := 210) rfl), lw_t8 (List.mem_of_getElem? (i := 211) rfl)⟩
def lw_privs_6 : List (MethodName × Nat) := [(⟨"LiarsCockModel", "readsCommon", "()Z"⟩, 69), (⟨"LiarsCockModel", "reads", "(Z)Z"⟩, 69), (⟨"LiarsCockModel", "puts", "(I)V"⟩, 69), (⟨"LiarsCockModel", "soIn", "(I)J"⟩, 69), (⟨"LiarsCockModel", "worked", "(I)I"⟩, 69), (⟨"LiarsCockModel", "opens", "(I)V"⟩, 69), (⟨"LiarsCockModel", "sums", "(I)V"⟩, 69), (⟨"LiarsCockModel", "tests", "(I)V"⟩, 69), (⟨"LiarsCockModel", "allWorlds", "()J"⟩, 69), (⟨"LiarsCockModel", "isPerson", "(I)Z"⟩, 69), (⟨"LiarsCockModel", "lays", "(III)I"⟩, 69), (⟨"LiarsCockModel", "isWorld", "(I)Z"⟩, 69), (⟨"LiarsCockModel", "isLie", "(III)Z"⟩, 69), (⟨"LiarsCockModel", "likeFor", "(II)J"⟩, 69), (⟨"LiarsCockModel", "isThere", "(I)Z"⟩, 69), (⟨"LiarsCockModel", "rows", "(I)V"⟩, 69)]
theorem lw_r6 : ∀ q ∈ lw_privs_6, lw_okq q := List.forall_mem_cons.mpr ⟨lw_p80, List.forall_mem_cons.mpr ⟨lw_p81, List.forall_mem_cons.mpr ⟨lw_p82, List.forall_mem_cons.mpr ⟨lw_p83, List.forall_mem_cons.mpr ⟨lw_p84, List.forall_mem_cons.mpr ⟨lw_p85, List.forall_mem_cons.mpr ⟨lw_p86, List.forall_mem_cons.mpr ⟨lw_p87, List.forall_mem_cons.mpr ⟨lw_p88, List.forall_mem_cons.mpr ⟨lw_p89, List.forall_mem_cons.mpr ⟨lw_p90, List.forall_mem_cons.mpr ⟨lw_p91, List.forall_mem_cons.mpr ⟨lw_p92, List.forall_mem_cons.mpr ⟨lw_p93, List.forall_mem_cons.mpr ⟨lw_p94, List.forall_mem_cons.mpr ⟨lw_p95, fun _ h => absurd h List.not_mem_nil⟩⟩⟩⟩⟩⟩⟩⟩⟩⟩⟩⟩⟩⟩⟩⟩
theorem lw_p96 : lw_okq (⟨"LiarsCockModel", "liesOf", "(I)V"⟩, 69) := ⟨⟨by decide +kernel, by decide +kernel⟩, lw_t7 (List.mem_of_getElem? (i := 47) rfl), lw_t8 (List.mem_of_getElem? (i := 214) rfl), lw_t8 (List.mem_of_getElem? (i := 215) rfl)⟩
theorem lw_p97 : lw_okq (⟨"LiarsCockModel", "pointsTo", "(III)I"⟩, 69) := ⟨⟨by decide +kernel, by decide +kernel⟩, lw_t7 (List.mem_of_getElem? (i := 47) rfl), lw_t8 (List.mem_of_getElem? (i := 218) rfl), lw_t8 (List.mem_of_getElem? (i := 219) rfl)⟩
theorem lw_p98 : lw_okq (⟨"LiarsCockModel", "canBe", "()J"⟩, 69) := ⟨⟨by decide +kernel, by decide +kernel⟩, lw_t7 (List.mem_of_getElem? (i := 47) rfl), lw_t8 (List.mem_of_getElem? (i := 233) rfl), lw_t8 (List.mem_of_getElem? (i := 234) rfl)⟩
theorem lw_p99 : lw_okq (⟨"LiarsCockModel", "fitsIn", "(II)Z"⟩, 69) := ⟨⟨by decide +kernel, by decide +kernel⟩, lw_t7 (List.mem_of_getElem? (i := 47) rfl), lw_t8 (List.mem_of_getElem? (i := 237) rfl), lw_t8 (List.mem_of_getElem? (i := 238) rfl)⟩
theorem lw_p100 : lw_okq (⟨"LiarsCockModel", "bearingAt", "(III)I"⟩, 69) := ⟨⟨by decide +kernel, by decide +kernel⟩, lw_t7 (List.mem_of_getElem? (i := 47) rfl), lw_t9 (List.mem_of_getElem? (i := 1) rfl), lw_t9 (List.mem_of_getElem? (i := 2) rfl)⟩
theorem lw_p101 : lw_okq (⟨"LiarsCockModel", "isFact", "(I)Z"⟩, 69) := ⟨⟨by decide +kernel, by decide +kernel⟩, lw_t7 (List.mem_of_getElem? (i := 47) rfl), lw_t9 (List.mem_of_getElem? (i := 12) rfl), lw_t9 (List.mem_of_getElem? (i := 13) rfl)⟩
theorem lw_p102 : lw_okq (⟨"LiarsCockModel", "factSet", "(I)J"⟩, 69) := ⟨⟨by decide +kernel, by decide +kernel⟩, lw_t7 (List.mem_of_getElem? (i := 47) rfl), lw_t9 (List.mem_of_getElem? (i := 16) rfl), lw_t9 (List.mem_of_getElem? (i := 17) rfl)⟩
theorem lw_p103 : lw_okq (⟨"LiarsCockModel", "weight", "(I)J"⟩, 69) := ⟨⟨by decide +kernel, by decide +kernel⟩, lw_t7 (List.mem_of_getElem? (i := 47) rfl), lw_t9 (List.mem_of_getElem? (i := 41) rfl), lw_t9 (List.mem_of_getElem? (i := 42) rfl)⟩
theorem lw_p104 : lw_okq (⟨"LiarsCockModel", "withLooks", "(I)J"⟩, 69) := ⟨⟨by decide +kernel, by decide +kernel⟩, lw_t7 (List.mem_of_getElem? (i := 47) rfl), lw_t9 (List.mem_of_getElem? (i := 52) rfl), lw_t9 (List.mem_of_getElem? (i := 53) rfl)⟩
theorem lw_p105 : lw_okq (⟨"LiarsCockModel", "isSpan", "(III)Z"⟩, 69) := ⟨⟨by decide +kernel, by decide +kernel⟩, lw_t7 (List.mem_of_getElem? (i := 47) rfl), lw_t9 (List.mem_of_getElem? (i := 64) rfl), lw_t9 (List.mem_of_getElem? (i := 65) rfl)⟩
theorem lw_p106 : lw_okq (⟨"LiarsCockModel", "isAsBefore", "(III)Z"⟩, 69) := ⟨⟨by decide +kernel, by decide +kernel⟩, lw_t7 (List.mem_of_getElem? (i := 47) rfl), lw_t9 (List.mem_of_getElem? (i := 68) rfl), lw_t9 (List.mem_of_getElem? (i := 69) rfl)⟩
theorem lw_p107 : lw_okq (⟨"LiarsCockModel", "classes", "(IIJZ)I"⟩, 69) := ⟨⟨by decide +kernel, by decide +kernel⟩, lw_t7 (List.mem_of_getElem? (i := 47) rfl), lw_t9 (List.mem_of_getElem? (i := 72) rfl), lw_t9 (List.mem_of_getElem? (i := 73) rfl)⟩
theorem lw_p108 : lw_okq (⟨"LiarsCockModel", "isToldLie", "(II)Z"⟩, 69) := ⟨⟨by decide +kernel, by decide +kernel⟩, lw_t7 (List.mem_of_getElem? (i := 47) rfl), lw_t9 (List.mem_of_getElem? (i := 113) rfl), lw_t9 (List.mem_of_getElem? (i := 114) rfl)⟩
theorem lw_p109 : lw_okq (⟨"LiarsCockModel", "isHidden", "(II)Z"⟩, 69) := ⟨⟨by decide +kernel, by decide +kernel⟩, lw_t7 (List.mem_of_getElem? (i := 47) rfl), lw_t9 (List.mem_of_getElem? (i := 117) rfl), lw_t9 (List.mem_of_getElem? (i := 118) rfl)⟩
theorem lw_p110 : lw_okq (⟨"LiarsCockModel", "toldBy", "(I)I"⟩, 69) := ⟨⟨by decide +kernel, by decide +kernel⟩, lw_t7 (List.mem_of_getElem? (i := 47) rfl), lw_t9 (List.mem_of_getElem? (i := 142) rfl), lw_t9 (List.mem_of_getElem? (i := 143) rfl)⟩
theorem lw_p111 : lw_okq (⟨"LiarsCockModel", "turnsOut", "(IJ)V"⟩, 69) := ⟨⟨by decide +kernel, by decide +kernel⟩, lw_t7 (List.mem_of_getElem? (i := 47) rfl), lw_t9 (List.mem_of_getElem? (i := 158) rfl), lw_t9 (List.mem_of_getElem? (i := 159) rfl)⟩
def lw_privs_7 : List (MethodName × Nat) := [(⟨"LiarsCockModel", "liesOf", "(I)V"⟩, 69), (⟨"LiarsCockModel", "pointsTo", "(III)I"⟩, 69), (⟨"LiarsCockModel", "canBe", "()J"⟩, 69), (⟨"LiarsCockModel", "fitsIn", "(II)Z"⟩, 69), (⟨"LiarsCockModel", "bearingAt", "(III)I"⟩, 69), (⟨"LiarsCockModel", "isFact", "(I)Z"⟩, 69), (⟨"LiarsCockModel", "factSet", "(I)J"⟩, 69), (⟨"LiarsCockModel", "weight", "(I)J"⟩, 69), (⟨"LiarsCockModel", "withLooks", "(I)J"⟩, 69), (⟨"LiarsCockModel", "isSpan", "(III)Z"⟩, 69), (⟨"LiarsCockModel", "isAsBefore", "(III)Z"⟩, 69), (⟨"LiarsCockModel", "classes", "(IIJZ)I"⟩, 69), (⟨"LiarsCockModel", "isToldLie", "(II)Z"⟩, 69), (⟨"LiarsCockModel", "isHidden", "(II)Z"⟩, 69), (⟨"LiarsCockModel", "toldBy", "(I)I"⟩, 69), (⟨"LiarsCockModel", "turnsOut", "(IJ)V"⟩, 69)]
theorem lw_r7 : ∀ q ∈ lw_privs_7, lw_okq q := List.forall_mem_cons.mpr ⟨lw_p96, List.forall_mem_cons.mpr ⟨lw_p97, List.forall_mem_cons.mpr ⟨lw_p98, List.forall_mem_cons.mpr ⟨lw_p99, List.forall_mem_cons.mpr ⟨lw_p100, List.forall_mem_cons.mpr ⟨lw_p101, List.forall_mem_cons.mpr ⟨lw_p102, List.forall_mem_cons.mpr ⟨lw_p103, List.forall_mem_cons.mpr ⟨lw_p104, List.forall_mem_cons.mpr ⟨lw_p105, List.forall_mem_cons.mpr ⟨lw_p106, List.forall_mem_cons.mpr ⟨lw_p107, List.forall_mem_cons.mpr ⟨lw_p108, List.forall_mem_cons.mpr ⟨lw_p109, List.forall_mem_cons.mpr ⟨lw_p110, List.forall_mem_cons.mpr ⟨lw_p111, fun _ h => absurd h List.not_mem_nil⟩⟩⟩⟩⟩⟩⟩⟩⟩⟩⟩⟩⟩⟩⟩⟩
theorem lw_p112 : lw_okq (⟨"LiarsCockModel", "turnsIn", "(IIJ)Z"⟩, 69) := ⟨⟨by decide +kernel, by decide +kernel⟩, lw_t7 (List.mem_of_getElem? (i := 47) rfl), lw_t9 (List.mem_of_getElem? (i := 162) rfl), lw_t9 (List.mem_of_getElem? (i := 163) rfl)⟩
theorem lw_p113 : lw_okq (⟨"LiarsCockModel", "finds", "(IIIJ)Z"⟩, 69) := ⟨⟨by decide +kernel, by decide +kernel⟩, lw_t7 (List.mem_of_getElem? (i := 47) rfl), lw_t9 (List.mem_of_getElem? (i := 166) rfl), lw_t9 (List.mem_of_getElem? (i := 167) rfl)⟩
theorem lw_p114 : lw_okq (⟨"LiarsCockModel", "tells", "(IIJ)Z"⟩, 69) := ⟨⟨by decide +kernel, by decide +kernel⟩, lw_t7 (List.mem_of_getElem? (i := 47) rfl), lw_t9 (List.mem_of_getElem? (i := 170) rfl), lw_t9 (List.mem_of_getElem? (i := 171) rfl)⟩
theorem lw_p115 : lw_okq (⟨"LiarsCockModel", "keepsRow", "([IIZ)V"⟩, 69) := ⟨⟨by decide +kernel, by decide +kernel⟩, lw_t7 (List.mem_of_getElem? (i := 47) rfl), lw_t9 (List.mem_of_getElem? (i := 190) rfl), lw_t9 (List.mem_of_getElem? (i := 191) rfl)⟩
theorem lw_p116 : lw_okq (⟨"LiarsCockModel", "keeps", "(IZ)I"⟩, 69) := ⟨⟨by decide +kernel, by decide +kernel⟩, lw_t7 (List.mem_of_getElem? (i := 47) rfl), lw_t9 (List.mem_of_getElem? (i := 194) rfl), lw_t9 (List.mem_of_getElem? (i := 195) rfl)⟩
theorem lw_p117 : lw_okq (⟨"LiarsCockModel", "keepsLongs", "([JIIZ)V"⟩, 69) := ⟨⟨by decide +kernel, by decide +kernel⟩, lw_t7 (List.mem_of_getElem? (i := 47) rfl), lw_t9 (List.mem_of_getElem? (i := 198) rfl), lw_t9 (List.mem_of_getElem? (i := 199) rfl)⟩
def lw_privs_8 : List (MethodName × Nat) := [(⟨"LiarsCockModel", "turnsIn", "(IIJ)Z"⟩, 69), (⟨"LiarsCockModel", "finds", "(IIIJ)Z"⟩, 69), (⟨"LiarsCockModel", "tells", "(IIJ)Z"⟩, 69), (⟨"LiarsCockModel", "keepsRow", "([IIZ)V"⟩, 69), (⟨"LiarsCockModel", "keeps", "(IZ)I"⟩, 69), (⟨"LiarsCockModel", "keepsLongs", "([JIIZ)V"⟩, 69)]
theorem lw_r8 : ∀ q ∈ lw_privs_8, lw_okq q := List.forall_mem_cons.mpr ⟨lw_p112, List.forall_mem_cons.mpr ⟨lw_p113, List.forall_mem_cons.mpr ⟨lw_p114, List.forall_mem_cons.mpr ⟨lw_p115, List.forall_mem_cons.mpr ⟨lw_p116, List.forall_mem_cons.mpr ⟨lw_p117, fun _ h => absurd h List.not_mem_nil⟩⟩⟩⟩⟩⟩
def lw_privs : List (MethodName × Nat) := lw_privs_1 ++ (lw_privs_2 ++ (lw_privs_3 ++ (lw_privs_4 ++ (lw_privs_5 ++ (lw_privs_6 ++ (lw_privs_7 ++ (lw_privs_8)))))))
def lw_tbl : List Cond := k2_sels lw_privs ++ tables_1
theorem lw_privs_ok : ∀ q ∈ lw_privs, lw_okq q := by
  show ∀ q ∈ lw_privs_1 ++ (lw_privs_2 ++ (lw_privs_3 ++ (lw_privs_4 ++ (lw_privs_5 ++ (lw_privs_6 ++ (lw_privs_7 ++ (lw_privs_8))))))), lw_okq q
  exact List.forall_mem_append.mpr ⟨lw_r1, List.forall_mem_append.mpr ⟨lw_r2, List.forall_mem_append.mpr ⟨lw_r3, List.forall_mem_append.mpr ⟨lw_r4, List.forall_mem_append.mpr ⟨lw_r5, List.forall_mem_append.mpr ⟨lw_r6, List.forall_mem_append.mpr ⟨lw_r7, lw_r8⟩⟩⟩⟩⟩⟩⟩
-- ===== ONE list of words for every method: the tables' words that hold all through a run =====
def lw_all : List Cond := lw_tbl.filter goodWord
/-- a word of the tables by its place: claim/WORDS.tsv -/
theorem lw_w {w : Cond} (i : Nat) (h : lw_tbl[i]? = some w) (g : goodWord w = true) : w ∈ lw_all := List.mem_filter.mpr ⟨List.mem_of_getElem? h, g⟩
theorem lw_all_tbl {w : Cond} (h : w ∈ lw_all) : w ∈ lw_tbl := (List.mem_filter.mp h).1
theorem lw_self : GoodIn lw_all lw_all := fun w h => ⟨h, good_of_word (List.mem_filter.mp h).2⟩
/-- a class's field words, by their places -/
theorem lw_in (ws : List Cond) (ps : List Nat) (hp : ws = ps.filterMap (fun i => lw_tbl[i]?)) (hg : ws.all goodWord = true) : ∀ w ∈ ws, w ∈ lw_all := by
  intro w h
  have h1 := List.all_eq_true.mp hg w h
  rw [hp] at h
  obtain ⟨i, -, hi⟩ := List.mem_filterMap.mp h
  exact lw_w i hi h1
/-- the words of a contract for the method y with code b, L locals, answer r -/
abbrev ws_ (y : MethodName) (b : ByteArray) (L : Nat) (r : Option FieldType) : List Cond := Cond.code y b L r :: lw_all
theorem lw_meth {y : MethodName} {b : ByteArray} {L : Nat} {r : Option FieldType} (h : Cond.code y b L r ∈ lw_all) : GoodIn lw_all (ws_ y b L r) := by
  intro w hw
  rcases List.mem_cons.mp hw with e | e
  · rw [e]
    exact lw_self _ h
  · exact lw_self _ e
theorem lw_app {a c : List Cond} (ha : ∀ w ∈ a, w ∈ lw_all) (hc : GoodIn lw_all c) : GoodIn lw_all (a ++ c) := by
  intro w hw
  rcases List.mem_append.mp hw with e | e
  · exact lw_self w (ha w e)
  · exact hc w e
/-- what a call through an object asks: cwV n hts (lw_V ..) -/
theorem lw_V {own : String} {idx : Nat} {C : String} {y : MethodName} {b : ByteArray} {L : Nat} {r : Option FieldType} (h1 : Cond.methodLink own idx y ∈ lw_all) (h2 : Cond.instanceMethod y ∈ lw_all) (h3 : Cond.selects C y y ∈ lw_all) (h4 : Cond.initialized C ∈ lw_all) (h5 : Cond.code y b L r ∈ lw_all) : GoodIn lw_all (wsV own idx C y (ws_ y b L r)) := by
  refine lw_app ?_ (lw_meth h5)
  intro w hw
  simp only [List.mem_cons, List.not_mem_nil, or_false] at hw
  rcases hw with e | e | e | e
  · rw [e]; exact h1
  · rw [e]; exact h2
  · rw [e]; exact h3
  · rw [e]; exact h4
/-- what a static call asks: va_cwS n hts (lw_S ..) -/
theorem lw_S {own : String} {idx : Nat} {y : MethodName} {b : ByteArray} {L : Nat} {r : Option FieldType} (h1 : Cond.methodLink own idx y ∈ lw_all) (h2 : Cond.static y ∈ lw_all) (h3 : Cond.initialized y.cls ∈ lw_all) (h4 : Cond.code y b L r ∈ lw_all) : GoodIn lw_all (va_wsS own idx y (ws_ y b L r)) := by
  refine lw_app ?_ (lw_meth h4)
  intro w hw
  simp only [List.mem_cons, List.not_mem_nil, or_false] at hw
  rcases hw with e | e | e
  · rw [e]; exact h1
  · rw [e]; exact h2
  · rw [e]; exact h3
/-- the words of a contract for a method WITH HANDLERS (hh: its table) -/
abbrev wsW_ (y : MethodName) (b : ByteArray) (L : Nat) (r : Option FieldType) (hh : List (Nat × Nat × Nat × Nat)) : List Cond := Cond.codeWith y b L r hh :: lw_all
theorem lw_methW {y : MethodName} {b : ByteArray} {L : Nat} {r : Option FieldType} {hh : List (Nat × Nat × Nat × Nat)} (h : Cond.codeWith y b L r hh ∈ lw_all) : GoodIn lw_all (wsW_ y b L r hh) := by
  intro w hw
  rcases List.mem_cons.mp hw with e | e
  · rw [e]
    exact lw_self _ h
  · exact lw_self _ e
/-- any list of words by their places (lw_in), good -/
theorem lw_good {ws : List Cond} (h : ∀ w ∈ ws, w ∈ lw_all) : GoodIn lw_all ws := fun w hw => lw_self w (h w hw)
/-- what a call of a method with handlers asks: vx_cwVW n hts (lw_VW ..), vx_cwSW n hts (lw_SW ..) -/
theorem lw_VW {own : String} {idx : Nat} {C : String} {y : MethodName} {b : ByteArray} {L : Nat} {r : Option FieldType} {hh : List (Nat × Nat × Nat × Nat)} (h1 : Cond.methodLink own idx y ∈ lw_all) (h2 : Cond.instanceMethod y ∈ lw_all) (h3 : Cond.selects C y y ∈ lw_all) (h4 : Cond.initialized C ∈ lw_all) (h5 : Cond.codeWith y b L r hh ∈ lw_all) : GoodIn lw_all (wsV own idx C y (wsW_ y b L r hh)) := by
  refine lw_app ?_ (lw_methW h5)
  intro w hw
  simp only [List.mem_cons, List.not_mem_nil, or_false] at hw
  rcases hw with e | e | e | e
  · rw [e]; exact h1
  · rw [e]; exact h2
  · rw [e]; exact h3
  · rw [e]; exact h4
theorem lw_SW {own : String} {idx : Nat} {y : MethodName} {b : ByteArray} {L : Nat} {r : Option FieldType} {hh : List (Nat × Nat × Nat × Nat)} (h1 : Cond.methodLink own idx y ∈ lw_all) (h2 : Cond.static y ∈ lw_all) (h3 : Cond.initialized y.cls ∈ lw_all) (h4 : Cond.codeWith y b L r hh ∈ lw_all) : GoodIn lw_all (va_wsS own idx y (wsW_ y b L r hh)) := by
  refine lw_app ?_ (lw_methW h4)
  intro w hw
  simp only [List.mem_cons, List.not_mem_nil, or_false] at hw
  rcases hw with e | e | e
  · rw [e]; exact h1
  · rw [e]; exact h2
  · rw [e]; exact h3
/-- a word by its place in its run of the tables -/
theorem lw_at {r : List Cond} (hr : ∀ w ∈ r, w ∈ lw_tbl) {w : Cond} (i : Nat) (h : r[i]? = some w) : w ∈ lw_tbl := hr w (List.mem_of_getElem? h)
theorem lw_g {w : Cond} (h : w ∈ lw_tbl) (g : goodWord w = true) : w ∈ lw_all := List.mem_filter.mpr ⟨h, g⟩
theorem lw_ms : ∀ w ∈ k2_sels lw_privs, w ∈ lw_tbl := fun w h => show w ∈ k2_sels lw_privs ++ tables_1 from List.mem_append_left _ h
theorem lw_m1 : ∀ w ∈ tables_1_1, w ∈ lw_tbl := fun w h => show w ∈ k2_sels lw_privs ++ tables_1 from List.mem_append_right (k2_sels lw_privs) (show w ∈ tables_1 from List.mem_append_left _ h)
theorem lw_m2 : ∀ w ∈ tables_1_2, w ∈ lw_tbl := fun w h => show w ∈ k2_sels lw_privs ++ tables_1 from List.mem_append_right (k2_sels lw_privs) (show w ∈ tables_1 from List.mem_append_right _ (List.mem_append_left _ h))
theorem lw_m3 : ∀ w ∈ tables_1_3, w ∈ lw_tbl := fun w h => show w ∈ k2_sels lw_privs ++ tables_1 from List.mem_append_right (k2_sels lw_privs) (show w ∈ tables_1 from List.mem_append_right _ (List.mem_append_right _ (List.mem_append_left _ h)))
theorem lw_m4 : ∀ w ∈ tables_1_4, w ∈ lw_tbl := fun w h => show w ∈ k2_sels lw_privs ++ tables_1 from List.mem_append_right (k2_sels lw_privs) (show w ∈ tables_1 from List.mem_append_right _ (List.mem_append_right _ (List.mem_append_right _ (List.mem_append_left _ h))))
theorem lw_m5 : ∀ w ∈ tables_1_5, w ∈ lw_tbl := fun w h => show w ∈ k2_sels lw_privs ++ tables_1 from List.mem_append_right (k2_sels lw_privs) (show w ∈ tables_1 from List.mem_append_right _ (List.mem_append_right _ (List.mem_append_right _ (List.mem_append_right _ (List.mem_append_left _ h)))))
theorem lw_m6 : ∀ w ∈ tables_1_6, w ∈ lw_tbl := fun w h => show w ∈ k2_sels lw_privs ++ tables_1 from List.mem_append_right (k2_sels lw_privs) (show w ∈ tables_1 from List.mem_append_right _ (List.mem_append_right _ (List.mem_append_right _ (List.mem_append_right _ (List.mem_append_right _ (List.mem_append_left _ h))))))
theorem lw_m7 : ∀ w ∈ tables_1_7, w ∈ lw_tbl := fun w h => show w ∈ k2_sels lw_privs ++ tables_1 from List.mem_append_right (k2_sels lw_privs) (show w ∈ tables_1 from List.mem_append_right _ (List.mem_append_right _ (List.mem_append_right _ (List.mem_append_right _ (List.mem_append_right _ (List.mem_append_right _ (List.mem_append_left _ h)))))))
theorem lw_m8 : ∀ w ∈ tables_1_8, w ∈ lw_tbl := fun w h => show w ∈ k2_sels lw_privs ++ tables_1 from List.mem_append_right (k2_sels lw_privs) (show w ∈ tables_1 from List.mem_append_right _ (List.mem_append_right _ (List.mem_append_right _ (List.mem_append_right _ (List.mem_append_right _ (List.mem_append_right _ (List.mem_append_right _ (List.mem_append_left _ h))))))))
theorem lw_m9 : ∀ w ∈ tables_1_9, w ∈ lw_tbl := fun w h => show w ∈ k2_sels lw_privs ++ tables_1 from List.mem_append_right (k2_sels lw_privs) (show w ∈ tables_1 from List.mem_append_right _ (List.mem_append_right _ (List.mem_append_right _ (List.mem_append_right _ (List.mem_append_right _ (List.mem_append_right _ (List.mem_append_right _ (List.mem_append_right _ (List.mem_append_left _ h)))))))))
theorem lw_m10 : ∀ w ∈ tables_1_10, w ∈ lw_tbl := fun w h => show w ∈ k2_sels lw_privs ++ tables_1 from List.mem_append_right (k2_sels lw_privs) (show w ∈ tables_1 from List.mem_append_right _ (List.mem_append_right _ (List.mem_append_right _ (List.mem_append_right _ (List.mem_append_right _ (List.mem_append_right _ (List.mem_append_right _ (List.mem_append_right _ (List.mem_append_right _ h)))))))))
theorem qs0 : (Cond.selects "LiarsCock$Reader" ⟨"LiarsCock$Reader", "cut", "()V"⟩ ⟨"LiarsCock$Reader", "cut", "()V"⟩) ∈ lw_all := lw_g (lw_at lw_ms 0 rfl) rfl
theorem qs1 : (Cond.selects "LiarsCock$Reader" ⟨"LiarsCock$Reader", "isWord", "(Ljava/lang/String;)Z"⟩ ⟨"LiarsCock$Reader", "isWord", "(Ljava/lang/String;)Z"⟩) ∈ lw_all := lw_g (lw_at lw_ms 1 rfl) rfl
theorem qs2 : (Cond.selects "LiarsCock$Reader" ⟨"LiarsCock$Reader", "fact", "()V"⟩ ⟨"LiarsCock$Reader", "fact", "()V"⟩) ∈ lw_all := lw_g (lw_at lw_ms 2 rfl) rfl
theorem qs3 : (Cond.selects "LiarsCock$Reader" ⟨"LiarsCock$Reader", "newName", "(Z)J"⟩ ⟨"LiarsCock$Reader", "newName", "(Z)J"⟩) ∈ lw_all := lw_g (lw_at lw_ms 3 rfl) rfl
theorem qs4 : (Cond.selects "LiarsCock$Reader" ⟨"LiarsCock$Reader", "wrong", "(I)LLiarsCock$Wrong;"⟩ ⟨"LiarsCock$Reader", "wrong", "(I)LLiarsCock$Wrong;"⟩) ∈ lw_all := lw_g (lw_at lw_ms 4 rfl) rfl
theorem qs5 : (Cond.selects "java/lang/Throwable" ⟨"java/lang/Throwable", "fillInStackTrace", "(I)Ljava/lang/Throwable;"⟩ ⟨"java/lang/Throwable", "fillInStackTrace", "(I)Ljava/lang/Throwable;"⟩) ∈ lw_all := lw_g (lw_at lw_ms 5 rfl) rfl
theorem qs6 : (Cond.selects "LiarsCock$Reader" ⟨"LiarsCock$Reader", "isName", "()Z"⟩ ⟨"LiarsCock$Reader", "isName", "()Z"⟩) ∈ lw_all := lw_g (lw_at lw_ms 6 rfl) rfl
theorem qs7 : (Cond.selects "LiarsCock$Reader" ⟨"LiarsCock$Reader", "which", "([Ljava/lang/String;)I"⟩ ⟨"LiarsCock$Reader", "which", "([Ljava/lang/String;)I"⟩) ∈ lw_all := lw_g (lw_at lw_ms 7 rfl) rfl
theorem qs8 : (Cond.selects "LiarsCock$Reader" ⟨"LiarsCock$Reader", "number", "(II)I"⟩ ⟨"LiarsCock$Reader", "number", "(II)I"⟩) ∈ lw_all := lw_g (lw_at lw_ms 8 rfl) rfl
theorem qs9 : (Cond.selects "java/util/ArrayList" ⟨"java/util/ArrayList", "add", "(Ljava/lang/Object;[Ljava/lang/Object;I)V"⟩ ⟨"java/util/ArrayList", "add", "(Ljava/lang/Object;[Ljava/lang/Object;I)V"⟩) ∈ lw_all := lw_g (lw_at lw_ms 9 rfl) rfl
theorem qs10 : (Cond.selects "java/util/ArrayList" ⟨"java/util/ArrayList", "grow", "()[Ljava/lang/Object;"⟩ ⟨"java/util/ArrayList", "grow", "()[Ljava/lang/Object;"⟩) ∈ lw_all := lw_g (lw_at lw_ms 10 rfl) rfl
theorem qs11 : (Cond.selects "java/util/ArrayList" ⟨"java/util/ArrayList", "grow", "(I)[Ljava/lang/Object;"⟩ ⟨"java/util/ArrayList", "grow", "(I)[Ljava/lang/Object;"⟩) ∈ lw_all := lw_g (lw_at lw_ms 11 rfl) rfl
theorem qs12 : (Cond.selects "LiarsCock$Reader" ⟨"LiarsCock$Reader", "place", "()V"⟩ ⟨"LiarsCock$Reader", "place", "()V"⟩) ∈ lw_all := lw_g (lw_at lw_ms 12 rfl) rfl
theorem qs13 : (Cond.selects "LiarsCock$Reader" ⟨"LiarsCock$Reader", "takeWord", "(Ljava/lang/String;)V"⟩ ⟨"LiarsCock$Reader", "takeWord", "(Ljava/lang/String;)V"⟩) ∈ lw_all := lw_g (lw_at lw_ms 13 rfl) rfl
theorem qs14 : (Cond.selects "LiarsCock$Reader" ⟨"LiarsCock$Reader", "hasWord", "(Ljava/lang/String;)Z"⟩ ⟨"LiarsCock$Reader", "hasWord", "(Ljava/lang/String;)Z"⟩) ∈ lw_all := lw_g (lw_at lw_ms 14 rfl) rfl
theorem qs15 : (Cond.selects "LiarsCock$Reader" ⟨"LiarsCock$Reader", "person", "()V"⟩ ⟨"LiarsCock$Reader", "person", "()V"⟩) ∈ lw_all := lw_g (lw_at lw_ms 15 rfl) rfl
theorem qs16 : (Cond.selects "LiarsCock$Reader" ⟨"LiarsCock$Reader", "named", "(Ljava/util/ArrayList;)I"⟩ ⟨"LiarsCock$Reader", "named", "(Ljava/util/ArrayList;)I"⟩) ∈ lw_all := lw_g (lw_at lw_ms 16 rfl) rfl
theorem qs17 : (Cond.selects "LiarsCock$Reader" ⟨"LiarsCock$Reader", "common", "(Ljava/util/ArrayList;)V"⟩ ⟨"LiarsCock$Reader", "common", "(Ljava/util/ArrayList;)V"⟩) ∈ lw_all := lw_g (lw_at lw_ms 17 rfl) rfl
theorem qs18 : (Cond.selects "LiarsCock$Reader" ⟨"LiarsCock$Reader", "whole", "()LLiarsCock$Expression;"⟩ ⟨"LiarsCock$Reader", "whole", "()LLiarsCock$Expression;"⟩) ∈ lw_all := lw_g (lw_at lw_ms 18 rfl) rfl
theorem qs19 : (Cond.selects "LiarsCock$Reader" ⟨"LiarsCock$Reader", "all", "()LLiarsCock$Expression;"⟩ ⟨"LiarsCock$Reader", "all", "()LLiarsCock$Expression;"⟩) ∈ lw_all := lw_g (lw_at lw_ms 19 rfl) rfl
theorem qs20 : (Cond.selects "LiarsCock$Reader" ⟨"LiarsCock$Reader", "test", "()LLiarsCock$Expression;"⟩ ⟨"LiarsCock$Reader", "test", "()LLiarsCock$Expression;"⟩) ∈ lw_all := lw_g (lw_at lw_ms 20 rfl) rfl
theorem qs21 : (Cond.selects "LiarsCock$Reader" ⟨"LiarsCock$Reader", "sum", "()LLiarsCock$Expression;"⟩ ⟨"LiarsCock$Reader", "sum", "()LLiarsCock$Expression;"⟩) ∈ lw_all := lw_g (lw_at lw_ms 21 rfl) rfl
theorem qs22 : (Cond.selects "LiarsCock$Reader" ⟨"LiarsCock$Reader", "term", "()LLiarsCock$Expression;"⟩ ⟨"LiarsCock$Reader", "term", "()LLiarsCock$Expression;"⟩) ∈ lw_all := lw_g (lw_at lw_ms 22 rfl) rfl
theorem qs23 : (Cond.selects "LiarsCock$Reader" ⟨"LiarsCock$Reader", "part", "()LLiarsCock$Expression;"⟩ ⟨"LiarsCock$Reader", "part", "()LLiarsCock$Expression;"⟩) ∈ lw_all := lw_g (lw_at lw_ms 23 rfl) rfl
theorem qs24 : (Cond.selects "LiarsCock$Reader" ⟨"LiarsCock$Reader", "isSign", "(I)Z"⟩ ⟨"LiarsCock$Reader", "isSign", "(I)Z"⟩) ∈ lw_all := lw_g (lw_at lw_ms 24 rfl) rfl
theorem qs25 : (Cond.selects "LiarsCock$Reader" ⟨"LiarsCock$Reader", "sign", "(I)V"⟩ ⟨"LiarsCock$Reader", "sign", "(I)V"⟩) ∈ lw_all := lw_g (lw_at lw_ms 25 rfl) rfl
theorem qs26 : (Cond.selects "LiarsCock$Reader" ⟨"LiarsCock$Reader", "hasSign", "(I)Z"⟩ ⟨"LiarsCock$Reader", "hasSign", "(I)Z"⟩) ∈ lw_all := lw_g (lw_at lw_ms 26 rfl) rfl
theorem qs27 : (Cond.selects "LiarsCock$Reader" ⟨"LiarsCock$Reader", "cock", "()V"⟩ ⟨"LiarsCock$Reader", "cock", "()V"⟩) ∈ lw_all := lw_g (lw_at lw_ms 27 rfl) rfl
theorem qs28 : (Cond.selects "LiarsCock" ⟨"LiarsCock", "isWorld", "(I)Z"⟩ ⟨"LiarsCock", "isWorld", "(I)Z"⟩) ∈ lw_all := lw_g (lw_at lw_ms 28 rfl) rfl
theorem qs29 : (Cond.selects "LiarsCock" ⟨"LiarsCock", "isPerson", "(I)Z"⟩ ⟨"LiarsCock", "isPerson", "(I)Z"⟩) ∈ lw_all := lw_g (lw_at lw_ms 29 rfl) rfl
theorem qs30 : (Cond.selects "LiarsCock" ⟨"LiarsCock", "last", "()I"⟩ ⟨"LiarsCock", "last", "()I"⟩) ∈ lw_all := lw_g (lw_at lw_ms 30 rfl) rfl
theorem qs31 : (Cond.selects "LiarsCock" ⟨"LiarsCock", "told", "(Ljava/util/ArrayList;ZII)I"⟩ ⟨"LiarsCock", "told", "(Ljava/util/ArrayList;ZII)I"⟩) ∈ lw_all := lw_g (lw_at lw_ms 31 rfl) rfl
theorem qs32 : (Cond.selects "LiarsCock" ⟨"LiarsCock", "isCock", "(I)Z"⟩ ⟨"LiarsCock", "isCock", "(I)Z"⟩) ∈ lw_all := lw_g (lw_at lw_ms 32 rfl) rfl
theorem qs33 : (Cond.selects "LiarsCock" ⟨"LiarsCock", "pointsAt", "(III)I"⟩ ⟨"LiarsCock", "pointsAt", "(III)I"⟩) ∈ lw_all := lw_g (lw_at lw_ms 33 rfl) rfl
theorem qs34 : (Cond.selects "LiarsCock" ⟨"LiarsCock", "lastLie", "(III)LLiarsCock$Saying;"⟩ ⟨"LiarsCock", "lastLie", "(III)LLiarsCock$Saying;"⟩) ∈ lw_all := lw_g (lw_at lw_ms 34 rfl) rfl
theorem qs35 : (Cond.selects "LiarsCock" ⟨"LiarsCock", "isSaying", "(I)Z"⟩ ⟨"LiarsCock", "isSaying", "(I)Z"⟩) ∈ lw_all := lw_g (lw_at lw_ms 35 rfl) rfl
theorem qs36 : (Cond.selects "LiarsCock" ⟨"LiarsCock", "canBe", "()J"⟩ ⟨"LiarsCock", "canBe", "()J"⟩) ∈ lw_all := lw_g (lw_at lw_ms 36 rfl) rfl
theorem qs37 : (Cond.selects "LiarsCock" ⟨"LiarsCock", "allLooks", "()I"⟩ ⟨"LiarsCock", "allLooks", "()I"⟩) ∈ lw_all := lw_g (lw_at lw_ms 37 rfl) rfl
theorem qs38 : (Cond.selects "LiarsCock" ⟨"LiarsCock", "canBe", "(I)J"⟩ ⟨"LiarsCock", "canBe", "(I)J"⟩) ∈ lw_all := lw_g (lw_at lw_ms 38 rfl) rfl
theorem qs39 : (Cond.selects "LiarsCock" ⟨"LiarsCock", "fits", "(LLiarsCock$Look;)J"⟩ ⟨"LiarsCock", "fits", "(LLiarsCock$Look;)J"⟩) ∈ lw_all := lw_g (lw_at lw_ms 39 rfl) rfl
theorem qs40 : (Cond.selects "LiarsCock" ⟨"LiarsCock", "bearingAt", "(III)I"⟩ ⟨"LiarsCock", "bearingAt", "(III)I"⟩) ∈ lw_all := lw_g (lw_at lw_ms 40 rfl) rfl
theorem qs41 : (Cond.selects "LiarsCock" ⟨"LiarsCock", "isFact", "(I)Z"⟩ ⟨"LiarsCock", "isFact", "(I)Z"⟩) ∈ lw_all := lw_g (lw_at lw_ms 41 rfl) rfl
theorem qs42 : (Cond.selects "LiarsCock" ⟨"LiarsCock", "with", "(I)J"⟩ ⟨"LiarsCock", "with", "(I)J"⟩) ∈ lw_all := lw_g (lw_at lw_ms 42 rfl) rfl
theorem qs43 : (Cond.selects "LiarsCock" ⟨"LiarsCock", "weight", "(I)J"⟩ ⟨"LiarsCock", "weight", "(I)J"⟩) ∈ lw_all := lw_g (lw_at lw_ms 43 rfl) rfl
theorem qs44 : (Cond.selects "LiarsCock" ⟨"LiarsCock", "when", "(IIIIZ)I"⟩ ⟨"LiarsCock", "when", "(IIIIZ)I"⟩) ∈ lw_all := lw_g (lw_at lw_ms 44 rfl) rfl
theorem qs45 : (Cond.selects "LiarsCock" ⟨"LiarsCock", "seen", "(JIIII)I"⟩ ⟨"LiarsCock", "seen", "(JIIII)I"⟩) ∈ lw_all := lw_g (lw_at lw_ms 45 rfl) rfl
theorem qs46 : (Cond.selects "LiarsCock" ⟨"LiarsCock", "isHidable", "(I)Z"⟩ ⟨"LiarsCock", "isHidable", "(I)Z"⟩) ∈ lw_all := lw_g (lw_at lw_ms 46 rfl) rfl
theorem qs47 : (Cond.selects "LiarsCock" ⟨"LiarsCock", "areOffers", "(I)Z"⟩ ⟨"LiarsCock", "areOffers", "(I)Z"⟩) ∈ lw_all := lw_g (lw_at lw_ms 47 rfl) rfl
theorem qs48 : (Cond.selects "LiarsCock" ⟨"LiarsCock", "isHidden", "(II)Z"⟩ ⟨"LiarsCock", "isHidden", "(II)Z"⟩) ∈ lw_all := lw_g (lw_at lw_ms 48 rfl) rfl
theorem qs49 : (Cond.selects "LiarsCock" ⟨"LiarsCock", "isAlike", "(II)Z"⟩ ⟨"LiarsCock", "isAlike", "(II)Z"⟩) ∈ lw_all := lw_g (lw_at lw_ms 49 rfl) rfl
theorem qs50 : (Cond.selects "LiarsCock" ⟨"LiarsCock", "watched", "(LLiarsCock$Look;II)I"⟩ ⟨"LiarsCock", "watched", "(LLiarsCock$Look;II)I"⟩) ∈ lw_all := lw_g (lw_at lw_ms 50 rfl) rfl
theorem qs51 : (Cond.selects "LiarsCock" ⟨"LiarsCock", "lastWith", "(IIII)LLiarsCock$Saying;"⟩ ⟨"LiarsCock", "lastWith", "(IIII)LLiarsCock$Saying;"⟩) ∈ lw_all := lw_g (lw_at lw_ms 51 rfl) rfl
theorem qs52 : (Cond.selects "LiarsCock" ⟨"LiarsCock", "crowd", "(II)I"⟩ ⟨"LiarsCock", "crowd", "(II)I"⟩) ∈ lw_all := lw_g (lw_at lw_ms 52 rfl) rfl
theorem qs53 : (Cond.selects "LiarsCock" ⟨"LiarsCock", "areBlind", "(III)Z"⟩ ⟨"LiarsCock", "areBlind", "(III)Z"⟩) ∈ lw_all := lw_g (lw_at lw_ms 53 rfl) rfl
theorem qs54 : (Cond.selects "LiarsCock" ⟨"LiarsCock", "everybody", "()I"⟩ ⟨"LiarsCock", "everybody", "()I"⟩) ∈ lw_all := lw_g (lw_at lw_ms 54 rfl) rfl
theorem qs55 : (Cond.selects "LiarsCock" ⟨"LiarsCock", "toldBy", "(I)I"⟩ ⟨"LiarsCock", "toldBy", "(I)I"⟩) ∈ lw_all := lw_g (lw_at lw_ms 55 rfl) rfl
theorem qs56 : (Cond.selects "LiarsCock" ⟨"LiarsCock", "knownBy", "(I)I"⟩ ⟨"LiarsCock", "knownBy", "(I)I"⟩) ∈ lw_all := lw_g (lw_at lw_ms 56 rfl) rfl
theorem qs57 : (Cond.selects "LiarsCock$Lookout" ⟨"LiarsCock$Lookout", "find", "(IJ)V"⟩ ⟨"LiarsCock$Lookout", "find", "(IJ)V"⟩) ∈ lw_all := lw_g (lw_at lw_ms 57 rfl) rfl
theorem qs58 : (Cond.selects "LiarsCock$Lookout" ⟨"LiarsCock$Lookout", "mayTurn", "(I)Z"⟩ ⟨"LiarsCock$Lookout", "mayTurn", "(I)Z"⟩) ∈ lw_all := lw_g (lw_at lw_ms 58 rfl) rfl
theorem qs59 : (Cond.selects "LiarsCock$Lookout" ⟨"LiarsCock$Lookout", "tells", "(III)Z"⟩ ⟨"LiarsCock$Lookout", "tells", "(III)Z"⟩) ∈ lw_all := lw_g (lw_at lw_ms 59 rfl) rfl
theorem qs60 : (Cond.selects "LiarsCock$Lookout" ⟨"LiarsCock$Lookout", "partsAll", "(I)Z"⟩ ⟨"LiarsCock$Lookout", "partsAll", "(I)Z"⟩) ∈ lw_all := lw_g (lw_at lw_ms 60 rfl) rfl
theorem qs61 : (Cond.selects "LiarsCock$Lookout" ⟨"LiarsCock$Lookout", "parts", "(III)Z"⟩ ⟨"LiarsCock$Lookout", "parts", "(III)Z"⟩) ∈ lw_all := lw_g (lw_at lw_ms 61 rfl) rfl
theorem qs62 : (Cond.selects "LiarsCockModel" ⟨"LiarsCockModel", "forgets", "()V"⟩ ⟨"LiarsCockModel", "forgets", "()V"⟩) ∈ lw_all := lw_g (lw_at lw_ms 62 rfl) rfl
theorem qs63 : (Cond.selects "LiarsCockModel" ⟨"LiarsCockModel", "starts", "()V"⟩ ⟨"LiarsCockModel", "starts", "()V"⟩) ∈ lw_all := lw_g (lw_at lw_ms 63 rfl) rfl
theorem qs64 : (Cond.selects "LiarsCockModel" ⟨"LiarsCockModel", "nextToken", "()V"⟩ ⟨"LiarsCockModel", "nextToken", "()V"⟩) ∈ lw_all := lw_g (lw_at lw_ms 64 rfl) rfl
theorem qs65 : (Cond.selects "LiarsCockModel" ⟨"LiarsCockModel", "signAt", "(I)I"⟩ ⟨"LiarsCockModel", "signAt", "(I)I"⟩) ∈ lw_all := lw_g (lw_at lw_ms 65 rfl) rfl
theorem qs66 : (Cond.selects "LiarsCockModel" ⟨"LiarsCockModel", "readsParish", "()Z"⟩ ⟨"LiarsCockModel", "readsParish", "()Z"⟩) ∈ lw_all := lw_g (lw_at lw_ms 66 rfl) rfl
theorem qs67 : (Cond.selects "LiarsCockModel" ⟨"LiarsCockModel", "isWord", "(J)Z"⟩ ⟨"LiarsCockModel", "isWord", "(J)Z"⟩) ∈ lw_all := lw_g (lw_at lw_ms 67 rfl) rfl
theorem qs68 : (Cond.selects "LiarsCockModel" ⟨"LiarsCockModel", "readsFact", "()Z"⟩ ⟨"LiarsCockModel", "readsFact", "()Z"⟩) ∈ lw_all := lw_g (lw_at lw_ms 68 rfl) rfl
theorem qs69 : (Cond.selects "LiarsCockModel" ⟨"LiarsCockModel", "fails", "(I)Z"⟩ ⟨"LiarsCockModel", "fails", "(I)Z"⟩) ∈ lw_all := lw_g (lw_at lw_ms 69 rfl) rfl
theorem qs70 : (Cond.selects "LiarsCockModel" ⟨"LiarsCockModel", "needsNew", "(I)Z"⟩ ⟨"LiarsCockModel", "needsNew", "(I)Z"⟩) ∈ lw_all := lw_g (lw_at lw_ms 70 rfl) rfl
theorem qs71 : (Cond.selects "LiarsCockModel" ⟨"LiarsCockModel", "isKept", "()Z"⟩ ⟨"LiarsCockModel", "isKept", "()Z"⟩) ∈ lw_all := lw_g (lw_at lw_ms 71 rfl) rfl
theorem qs72 : (Cond.selects "LiarsCockModel" ⟨"LiarsCockModel", "whichOf", "(I)I"⟩ ⟨"LiarsCockModel", "whichOf", "(I)I"⟩) ∈ lw_all := lw_g (lw_at lw_ms 72 rfl) rfl
theorem qs73 : (Cond.selects "LiarsCockModel" ⟨"LiarsCockModel", "needsNumber", "(I)Z"⟩ ⟨"LiarsCockModel", "needsNumber", "(I)Z"⟩) ∈ lw_all := lw_g (lw_at lw_ms 73 rfl) rfl
theorem qs74 : (Cond.selects "LiarsCockModel" ⟨"LiarsCockModel", "ends", "()Z"⟩ ⟨"LiarsCockModel", "ends", "()Z"⟩) ∈ lw_all := lw_g (lw_at lw_ms 74 rfl) rfl
theorem qs75 : (Cond.selects "LiarsCockModel" ⟨"LiarsCockModel", "isSign", "(I)Z"⟩ ⟨"LiarsCockModel", "isSign", "(I)Z"⟩) ∈ lw_all := lw_g (lw_at lw_ms 75 rfl) rfl
theorem qs76 : (Cond.selects "LiarsCockModel" ⟨"LiarsCockModel", "readsPlace", "()Z"⟩ ⟨"LiarsCockModel", "readsPlace", "()Z"⟩) ∈ lw_all := lw_g (lw_at lw_ms 76 rfl) rfl
theorem qs77 : (Cond.selects "LiarsCockModel" ⟨"LiarsCockModel", "needsWord", "(J)Z"⟩ ⟨"LiarsCockModel", "needsWord", "(J)Z"⟩) ∈ lw_all := lw_g (lw_at lw_ms 77 rfl) rfl
theorem qs78 : (Cond.selects "LiarsCockModel" ⟨"LiarsCockModel", "readsPerson", "()Z"⟩ ⟨"LiarsCockModel", "readsPerson", "()Z"⟩) ∈ lw_all := lw_g (lw_at lw_ms 78 rfl) rfl
theorem qs79 : (Cond.selects "LiarsCockModel" ⟨"LiarsCockModel", "readsCock", "()Z"⟩ ⟨"LiarsCockModel", "readsCock", "()Z"⟩) ∈ lw_all := lw_g (lw_at lw_ms 79 rfl) rfl
theorem qs80 : (Cond.selects "LiarsCockModel" ⟨"LiarsCockModel", "readsCommon", "()Z"⟩ ⟨"LiarsCockModel", "readsCommon", "()Z"⟩) ∈ lw_all := lw_g (lw_at lw_ms 80 rfl) rfl
theorem qs81 : (Cond.selects "LiarsCockModel" ⟨"LiarsCockModel", "reads", "(Z)Z"⟩ ⟨"LiarsCockModel", "reads", "(Z)Z"⟩) ∈ lw_all := lw_g (lw_at lw_ms 81 rfl) rfl
theorem qs82 : (Cond.selects "LiarsCockModel" ⟨"LiarsCockModel", "puts", "(I)V"⟩ ⟨"LiarsCockModel", "puts", "(I)V"⟩) ∈ lw_all := lw_g (lw_at lw_ms 82 rfl) rfl
theorem qs83 : (Cond.selects "LiarsCockModel" ⟨"LiarsCockModel", "soIn", "(I)J"⟩ ⟨"LiarsCockModel", "soIn", "(I)J"⟩) ∈ lw_all := lw_g (lw_at lw_ms 83 rfl) rfl
theorem qs84 : (Cond.selects "LiarsCockModel" ⟨"LiarsCockModel", "worked", "(I)I"⟩ ⟨"LiarsCockModel", "worked", "(I)I"⟩) ∈ lw_all := lw_g (lw_at lw_ms 84 rfl) rfl
theorem qs85 : (Cond.selects "LiarsCockModel" ⟨"LiarsCockModel", "opens", "(I)V"⟩ ⟨"LiarsCockModel", "opens", "(I)V"⟩) ∈ lw_all := lw_g (lw_at lw_ms 85 rfl) rfl
theorem qs86 : (Cond.selects "LiarsCockModel" ⟨"LiarsCockModel", "sums", "(I)V"⟩ ⟨"LiarsCockModel", "sums", "(I)V"⟩) ∈ lw_all := lw_g (lw_at lw_ms 86 rfl) rfl
theorem qs87 : (Cond.selects "LiarsCockModel" ⟨"LiarsCockModel", "tests", "(I)V"⟩ ⟨"LiarsCockModel", "tests", "(I)V"⟩) ∈ lw_all := lw_g (lw_at lw_ms 87 rfl) rfl
theorem qs88 : (Cond.selects "LiarsCockModel" ⟨"LiarsCockModel", "allWorlds", "()J"⟩ ⟨"LiarsCockModel", "allWorlds", "()J"⟩) ∈ lw_all := lw_g (lw_at lw_ms 88 rfl) rfl
theorem qs89 : (Cond.selects "LiarsCockModel" ⟨"LiarsCockModel", "isPerson", "(I)Z"⟩ ⟨"LiarsCockModel", "isPerson", "(I)Z"⟩) ∈ lw_all := lw_g (lw_at lw_ms 89 rfl) rfl
theorem qs90 : (Cond.selects "LiarsCockModel" ⟨"LiarsCockModel", "lays", "(III)I"⟩ ⟨"LiarsCockModel", "lays", "(III)I"⟩) ∈ lw_all := lw_g (lw_at lw_ms 90 rfl) rfl
theorem qs91 : (Cond.selects "LiarsCockModel" ⟨"LiarsCockModel", "isWorld", "(I)Z"⟩ ⟨"LiarsCockModel", "isWorld", "(I)Z"⟩) ∈ lw_all := lw_g (lw_at lw_ms 91 rfl) rfl
theorem qs92 : (Cond.selects "LiarsCockModel" ⟨"LiarsCockModel", "isLie", "(III)Z"⟩ ⟨"LiarsCockModel", "isLie", "(III)Z"⟩) ∈ lw_all := lw_g (lw_at lw_ms 92 rfl) rfl
theorem qs93 : (Cond.selects "LiarsCockModel" ⟨"LiarsCockModel", "likeFor", "(II)J"⟩ ⟨"LiarsCockModel", "likeFor", "(II)J"⟩) ∈ lw_all := lw_g (lw_at lw_ms 93 rfl) rfl
theorem qs94 : (Cond.selects "LiarsCockModel" ⟨"LiarsCockModel", "isThere", "(I)Z"⟩ ⟨"LiarsCockModel", "isThere", "(I)Z"⟩) ∈ lw_all := lw_g (lw_at lw_ms 94 rfl) rfl
theorem qs95 : (Cond.selects "LiarsCockModel" ⟨"LiarsCockModel", "rows", "(I)V"⟩ ⟨"LiarsCockModel", "rows", "(I)V"⟩) ∈ lw_all := lw_g (lw_at lw_ms 95 rfl) rfl
theorem qs96 : (Cond.selects "LiarsCockModel" ⟨"LiarsCockModel", "liesOf", "(I)V"⟩ ⟨"LiarsCockModel", "liesOf", "(I)V"⟩) ∈ lw_all := lw_g (lw_at lw_ms 96 rfl) rfl
theorem qs97 : (Cond.selects "LiarsCockModel" ⟨"LiarsCockModel", "pointsTo", "(III)I"⟩ ⟨"LiarsCockModel", "pointsTo", "(III)I"⟩) ∈ lw_all := lw_g (lw_at lw_ms 97 rfl) rfl
theorem qs98 : (Cond.selects "LiarsCockModel" ⟨"LiarsCockModel", "canBe", "()J"⟩ ⟨"LiarsCockModel", "canBe", "()J"⟩) ∈ lw_all := lw_g (lw_at lw_ms 98 rfl) rfl
theorem qs99 : (Cond.selects "LiarsCockModel" ⟨"LiarsCockModel", "fitsIn", "(II)Z"⟩ ⟨"LiarsCockModel", "fitsIn", "(II)Z"⟩) ∈ lw_all := lw_g (lw_at lw_ms 99 rfl) rfl
theorem qs100 : (Cond.selects "LiarsCockModel" ⟨"LiarsCockModel", "bearingAt", "(III)I"⟩ ⟨"LiarsCockModel", "bearingAt", "(III)I"⟩) ∈ lw_all := lw_g (lw_at lw_ms 100 rfl) rfl
theorem qs101 : (Cond.selects "LiarsCockModel" ⟨"LiarsCockModel", "isFact", "(I)Z"⟩ ⟨"LiarsCockModel", "isFact", "(I)Z"⟩) ∈ lw_all := lw_g (lw_at lw_ms 101 rfl) rfl
theorem qs102 : (Cond.selects "LiarsCockModel" ⟨"LiarsCockModel", "factSet", "(I)J"⟩ ⟨"LiarsCockModel", "factSet", "(I)J"⟩) ∈ lw_all := lw_g (lw_at lw_ms 102 rfl) rfl
theorem qs103 : (Cond.selects "LiarsCockModel" ⟨"LiarsCockModel", "weight", "(I)J"⟩ ⟨"LiarsCockModel", "weight", "(I)J"⟩) ∈ lw_all := lw_g (lw_at lw_ms 103 rfl) rfl
theorem qs104 : (Cond.selects "LiarsCockModel" ⟨"LiarsCockModel", "withLooks", "(I)J"⟩ ⟨"LiarsCockModel", "withLooks", "(I)J"⟩) ∈ lw_all := lw_g (lw_at lw_ms 104 rfl) rfl
theorem qs105 : (Cond.selects "LiarsCockModel" ⟨"LiarsCockModel", "isSpan", "(III)Z"⟩ ⟨"LiarsCockModel", "isSpan", "(III)Z"⟩) ∈ lw_all := lw_g (lw_at lw_ms 105 rfl) rfl
theorem qs106 : (Cond.selects "LiarsCockModel" ⟨"LiarsCockModel", "isAsBefore", "(III)Z"⟩ ⟨"LiarsCockModel", "isAsBefore", "(III)Z"⟩) ∈ lw_all := lw_g (lw_at lw_ms 106 rfl) rfl
theorem qs107 : (Cond.selects "LiarsCockModel" ⟨"LiarsCockModel", "classes", "(IIJZ)I"⟩ ⟨"LiarsCockModel", "classes", "(IIJZ)I"⟩) ∈ lw_all := lw_g (lw_at lw_ms 107 rfl) rfl
theorem qs108 : (Cond.selects "LiarsCockModel" ⟨"LiarsCockModel", "isToldLie", "(II)Z"⟩ ⟨"LiarsCockModel", "isToldLie", "(II)Z"⟩) ∈ lw_all := lw_g (lw_at lw_ms 108 rfl) rfl
theorem qs109 : (Cond.selects "LiarsCockModel" ⟨"LiarsCockModel", "isHidden", "(II)Z"⟩ ⟨"LiarsCockModel", "isHidden", "(II)Z"⟩) ∈ lw_all := lw_g (lw_at lw_ms 109 rfl) rfl
theorem qs110 : (Cond.selects "LiarsCockModel" ⟨"LiarsCockModel", "toldBy", "(I)I"⟩ ⟨"LiarsCockModel", "toldBy", "(I)I"⟩) ∈ lw_all := lw_g (lw_at lw_ms 110 rfl) rfl
theorem qs111 : (Cond.selects "LiarsCockModel" ⟨"LiarsCockModel", "turnsOut", "(IJ)V"⟩ ⟨"LiarsCockModel", "turnsOut", "(IJ)V"⟩) ∈ lw_all := lw_g (lw_at lw_ms 111 rfl) rfl
theorem qs112 : (Cond.selects "LiarsCockModel" ⟨"LiarsCockModel", "turnsIn", "(IIJ)Z"⟩ ⟨"LiarsCockModel", "turnsIn", "(IIJ)Z"⟩) ∈ lw_all := lw_g (lw_at lw_ms 112 rfl) rfl
theorem qs113 : (Cond.selects "LiarsCockModel" ⟨"LiarsCockModel", "finds", "(IIIJ)Z"⟩ ⟨"LiarsCockModel", "finds", "(IIIJ)Z"⟩) ∈ lw_all := lw_g (lw_at lw_ms 113 rfl) rfl
theorem qs114 : (Cond.selects "LiarsCockModel" ⟨"LiarsCockModel", "tells", "(IIJ)Z"⟩ ⟨"LiarsCockModel", "tells", "(IIJ)Z"⟩) ∈ lw_all := lw_g (lw_at lw_ms 114 rfl) rfl
theorem qs115 : (Cond.selects "LiarsCockModel" ⟨"LiarsCockModel", "keepsRow", "([IIZ)V"⟩ ⟨"LiarsCockModel", "keepsRow", "([IIZ)V"⟩) ∈ lw_all := lw_g (lw_at lw_ms 115 rfl) rfl
theorem qs116 : (Cond.selects "LiarsCockModel" ⟨"LiarsCockModel", "keeps", "(IZ)I"⟩ ⟨"LiarsCockModel", "keeps", "(IZ)I"⟩) ∈ lw_all := lw_g (lw_at lw_ms 116 rfl) rfl
theorem qs117 : (Cond.selects "LiarsCockModel" ⟨"LiarsCockModel", "keepsLongs", "([JIIZ)V"⟩ ⟨"LiarsCockModel", "keepsLongs", "([JIIZ)V"⟩) ∈ lw_all := lw_g (lw_at lw_ms 117 rfl) rfl
