-- ===== PART A: goes FIRST, ahead of the names: the tables' words, and 'selects' of the private methods out of them =====
/-- a private method of a class that the tables say can be made, by its rows of tables_1 -/
def lw_okq (q : MethodName × Nat) : Prop := (q.1.cls ≠ "java/lang/invoke/MethodHandle" ∧ q.1.cls ≠ "java/lang/invoke/VarHandle") ∧ Cond.instantiable q.1.cls q.2 ∈ tables_1 ∧ Cond.privateMethod q.1 ∈ tables_1 ∧ Cond.instanceMethod q.1 ∈ tables_1
set_option maxRecDepth 100000
theorem lw_t1 {w : Cond} (h : w ∈ tables_1_1) : w ∈ tables_1 := List.mem_append_left _ h
theorem lw_t2 {w : Cond} (h : w ∈ tables_1_2) : w ∈ tables_1 := List.mem_append_right _ (List.mem_append_left _ h)
theorem lw_t3 {w : Cond} (h : w ∈ tables_1_3) : w ∈ tables_1 := List.mem_append_right _ (List.mem_append_right _ (List.mem_append_left _ h))
theorem lw_t4 {w : Cond} (h : w ∈ tables_1_4) : w ∈ tables_1 := List.mem_append_right _ (List.mem_append_right _ (List.mem_append_right _ (List.mem_append_left _ h)))
theorem lw_t5 {w : Cond} (h : w ∈ tables_1_5) : w ∈ tables_1 := List.mem_append_right _ (List.mem_append_right _ (List.mem_append_right _ (List.mem_append_right _ (List.mem_append_left _ h))))
theorem lw_t6 {w : Cond} (h : w ∈ tables_1_6) : w ∈ tables_1 := List.mem_append_right _ (List.mem_append_right _ (List.mem_append_right _ (List.mem_append_right _ (List.mem_append_right _ (List.mem_append_left _ h)))))
theorem lw_t7 {w : Cond} (h : w ∈ tables_1_7) : w ∈ tables_1 := List.mem_append_right _ (List.mem_append_right _ (List.mem_append_right _ (List.mem_append_right _ (List.mem_append_right _ (List.mem_append_right _ (List.mem_append_left _ h))))))
theorem lw_t8 {w : Cond} (h : w ∈ tables_1_8) : w ∈ tables_1 := List.mem_append_right _ (List.mem_append_right _ (List.mem_append_right _ (List.mem_append_right _ (List.mem_append_right _ (List.mem_append_right _ (List.mem_append_right _ (List.mem_append_left _ h)))))))
theorem lw_t9 {w : Cond} (h : w ∈ tables_1_9) : w ∈ tables_1 := List.mem_append_right _ (List.mem_append_right _ (List.mem_append_right _ (List.mem_append_right _ (List.mem_append_right _ (List.mem_append_right _ (List.mem_append_right _ (List.mem_append_right _ (List.mem_append_left _ h))))))))
theorem lw_t10 {w : Cond} (h : w ∈ tables_1_10) : w ∈ tables_1 := List.mem_append_right _ (List.mem_append_right _ (List.mem_append_right _ (List.mem_append_right _ (List.mem_append_right _ (List.mem_append_right _ (List.mem_append_right _ (List.mem_append_right _ (List.mem_append_right _ (List.mem_append_left _ h)))))))))
theorem lw_t11 {w : Cond} (h : w ∈ tables_1_11) : w ∈ tables_1 := List.mem_append_right _ (List.mem_append_right _ (List.mem_append_right _ (List.mem_append_right _ (List.mem_append_right _ (List.mem_append_right _ (List.mem_append_right _ (List.mem_append_right _ (List.mem_append_right _ (List.mem_append_right _ h)))))))))
theorem lw_p0 : lw_okq (⟨"FerryHall", "begin", "()V"⟩, 19) := ⟨⟨by decide +kernel, by decide +kernel⟩, lw_t1 (List.mem_of_getElem? (i := 43) rfl), lw_t2 (List.mem_of_getElem? (i := 141) rfl), lw_t2 (List.mem_of_getElem? (i := 142) rfl)⟩
theorem lw_p1 : lw_okq (⟨"FerryHall", "map", "()LFerryHall$Map;"⟩, 19) := ⟨⟨by decide +kernel, by decide +kernel⟩, lw_t1 (List.mem_of_getElem? (i := 43) rfl), lw_t3 (List.mem_of_getElem? (i := 29) rfl), lw_t3 (List.mem_of_getElem? (i := 30) rfl)⟩
theorem lw_p2 : lw_okq (⟨"FerryHall$Map", "add", "(II)I"⟩, 20) := ⟨⟨by decide +kernel, by decide +kernel⟩, lw_t1 (List.mem_of_getElem? (i := 154) rfl), lw_t3 (List.mem_of_getElem? (i := 100) rfl), lw_t3 (List.mem_of_getElem? (i := 101) rfl)⟩
theorem lw_p3 : lw_okq (⟨"FerryHall$Map", "slotOf", "(I)I"⟩, 20) := ⟨⟨by decide +kernel, by decide +kernel⟩, lw_t1 (List.mem_of_getElem? (i := 154) rfl), lw_t3 (List.mem_of_getElem? (i := 104) rfl), lw_t3 (List.mem_of_getElem? (i := 105) rfl)⟩
theorem lw_p4 : lw_okq (⟨"FerryHall$Map", "go", "(ILFerryHall$Place;)V"⟩, 20) := ⟨⟨by decide +kernel, by decide +kernel⟩, lw_t1 (List.mem_of_getElem? (i := 154) rfl), lw_t3 (List.mem_of_getElem? (i := 112) rfl), lw_t3 (List.mem_of_getElem? (i := 113) rfl)⟩
theorem lw_p5 : lw_okq (⟨"FerryHall$Map", "cross", "(ILFerryHall$Place;III)V"⟩, 20) := ⟨⟨by decide +kernel, by decide +kernel⟩, lw_t1 (List.mem_of_getElem? (i := 154) rfl), lw_t3 (List.mem_of_getElem? (i := 122) rfl), lw_t3 (List.mem_of_getElem? (i := 123) rfl)⟩
theorem lw_p6 : lw_okq (⟨"FerryHall$Judge", "holds", "(I)I"⟩, 9) := ⟨⟨by decide +kernel, by decide +kernel⟩, lw_t3 (List.mem_of_getElem? (i := 37) rfl), lw_t3 (List.mem_of_getElem? (i := 142) rfl), lw_t3 (List.mem_of_getElem? (i := 143) rfl)⟩
theorem lw_p7 : lw_okq (⟨"FerryHall$Judge", "load", "(I)I"⟩, 9) := ⟨⟨by decide +kernel, by decide +kernel⟩, lw_t3 (List.mem_of_getElem? (i := 37) rfl), lw_t3 (List.mem_of_getElem? (i := 150) rfl), lw_t3 (List.mem_of_getElem? (i := 151) rfl)⟩
theorem lw_p8 : lw_okq (⟨"FerryHall$Map", "turn", "()V"⟩, 20) := ⟨⟨by decide +kernel, by decide +kernel⟩, lw_t1 (List.mem_of_getElem? (i := 154) rfl), lw_t3 (List.mem_of_getElem? (i := 168) rfl), lw_t3 (List.mem_of_getElem? (i := 169) rfl)⟩
theorem lw_p9 : lw_okq (⟨"FerryHall$Map", "back", "(Z[I)V"⟩, 20) := ⟨⟨by decide +kernel, by decide +kernel⟩, lw_t1 (List.mem_of_getElem? (i := 154) rfl), lw_t3 (List.mem_of_getElem? (i := 176) rfl), lw_t3 (List.mem_of_getElem? (i := 177) rfl)⟩
theorem lw_p10 : lw_okq (⟨"FerryHall$Map", "step", "(IZ)I"⟩, 20) := ⟨⟨by decide +kernel, by decide +kernel⟩, lw_t1 (List.mem_of_getElem? (i := 154) rfl), lw_t3 (List.mem_of_getElem? (i := 184) rfl), lw_t3 (List.mem_of_getElem? (i := 185) rfl)⟩
theorem lw_p11 : lw_okq (⟨"FerryHall", "keep", "(LFerryHall$Map;Z)V"⟩, 19) := ⟨⟨by decide +kernel, by decide +kernel⟩, lw_t1 (List.mem_of_getElem? (i := 43) rfl), lw_t3 (List.mem_of_getElem? (i := 188) rfl), lw_t3 (List.mem_of_getElem? (i := 189) rfl)⟩
theorem lw_p12 : lw_okq (⟨"java/util/ArrayList", "add", "(Ljava/lang/Object;[Ljava/lang/Object;I)V"⟩, 3) := ⟨⟨by decide +kernel, by decide +kernel⟩, lw_t1 (List.mem_of_getElem? (i := 59) rfl), lw_t3 (List.mem_of_getElem? (i := 231) rfl), lw_t3 (List.mem_of_getElem? (i := 232) rfl)⟩
theorem lw_p13 : lw_okq (⟨"java/util/ArrayList", "grow", "()[Ljava/lang/Object;"⟩, 3) := ⟨⟨by decide +kernel, by decide +kernel⟩, lw_t1 (List.mem_of_getElem? (i := 59) rfl), lw_t3 (List.mem_of_getElem? (i := 235) rfl), lw_t3 (List.mem_of_getElem? (i := 236) rfl)⟩
theorem lw_p14 : lw_okq (⟨"java/util/ArrayList", "grow", "(I)[Ljava/lang/Object;"⟩, 3) := ⟨⟨by decide +kernel, by decide +kernel⟩, lw_t1 (List.mem_of_getElem? (i := 59) rfl), lw_t3 (List.mem_of_getElem? (i := 239) rfl), lw_t4 (List.mem_of_getElem? (i := 0) rfl)⟩
theorem lw_p15 : lw_okq (⟨"FerryHall$Rounds", "single", "(II)V"⟩, 9) := ⟨⟨by decide +kernel, by decide +kernel⟩, lw_t4 (List.mem_of_getElem? (i := 84) rfl), lw_t4 (List.mem_of_getElem? (i := 130) rfl), lw_t4 (List.mem_of_getElem? (i := 131) rfl)⟩
def lw_privs_1 : List (MethodName × Nat) := [(⟨"FerryHall", "begin", "()V"⟩, 19), (⟨"FerryHall", "map", "()LFerryHall$Map;"⟩, 19), (⟨"FerryHall$Map", "add", "(II)I"⟩, 20), (⟨"FerryHall$Map", "slotOf", "(I)I"⟩, 20), (⟨"FerryHall$Map", "go", "(ILFerryHall$Place;)V"⟩, 20), (⟨"FerryHall$Map", "cross", "(ILFerryHall$Place;III)V"⟩, 20), (⟨"FerryHall$Judge", "holds", "(I)I"⟩, 9), (⟨"FerryHall$Judge", "load", "(I)I"⟩, 9), (⟨"FerryHall$Map", "turn", "()V"⟩, 20), (⟨"FerryHall$Map", "back", "(Z[I)V"⟩, 20), (⟨"FerryHall$Map", "step", "(IZ)I"⟩, 20), (⟨"FerryHall", "keep", "(LFerryHall$Map;Z)V"⟩, 19), (⟨"java/util/ArrayList", "add", "(Ljava/lang/Object;[Ljava/lang/Object;I)V"⟩, 3), (⟨"java/util/ArrayList", "grow", "()[Ljava/lang/Object;"⟩, 3), (⟨"java/util/ArrayList", "grow", "(I)[Ljava/lang/Object;"⟩, 3), (⟨"FerryHall$Rounds", "single", "(II)V"⟩, 9)]
theorem lw_r1 : ∀ q ∈ lw_privs_1, lw_okq q := List.forall_mem_cons.mpr ⟨lw_p0, List.forall_mem_cons.mpr ⟨lw_p1, List.forall_mem_cons.mpr ⟨lw_p2, List.forall_mem_cons.mpr ⟨lw_p3, List.forall_mem_cons.mpr ⟨lw_p4, List.forall_mem_cons.mpr ⟨lw_p5, List.forall_mem_cons.mpr ⟨lw_p6, List.forall_mem_cons.mpr ⟨lw_p7, List.forall_mem_cons.mpr ⟨lw_p8, List.forall_mem_cons.mpr ⟨lw_p9, List.forall_mem_cons.mpr ⟨lw_p10, List.forall_mem_cons.mpr ⟨lw_p11, List.forall_mem_cons.mpr ⟨lw_p12, List.forall_mem_cons.mpr ⟨lw_p13, List.forall_mem_cons.mpr ⟨lw_p14, List.forall_mem_cons.mpr ⟨lw_p15, fun _ h => absurd h List.not_mem_nil⟩⟩⟩⟩⟩⟩⟩⟩⟩⟩⟩⟩⟩⟩⟩⟩
theorem lw_p16 : lw_okq (⟨"FerryHall$Rounds", "come", "()V"⟩, 9) := ⟨⟨by decide +kernel, by decide +kernel⟩, lw_t4 (List.mem_of_getElem? (i := 84) rfl), lw_t4 (List.mem_of_getElem? (i := 136) rfl), lw_t4 (List.mem_of_getElem? (i := 137) rfl)⟩
theorem lw_p17 : lw_okq (⟨"FerryHall$Rounds", "pair", "(I)V"⟩, 9) := ⟨⟨by decide +kernel, by decide +kernel⟩, lw_t4 (List.mem_of_getElem? (i := 84) rfl), lw_t4 (List.mem_of_getElem? (i := 140) rfl), lw_t4 (List.mem_of_getElem? (i := 141) rfl)⟩
theorem lw_p18 : lw_okq (⟨"FerryHall$Rounds", "both", "(III)Z"⟩, 9) := ⟨⟨by decide +kernel, by decide +kernel⟩, lw_t4 (List.mem_of_getElem? (i := 84) rfl), lw_t4 (List.mem_of_getElem? (i := 145) rfl), lw_t4 (List.mem_of_getElem? (i := 146) rfl)⟩
theorem lw_p19 : lw_okq (⟨"java/util/ArrayList", "fastRemove", "([Ljava/lang/Object;I)V"⟩, 3) := ⟨⟨by decide +kernel, by decide +kernel⟩, lw_t1 (List.mem_of_getElem? (i := 59) rfl), lw_t4 (List.mem_of_getElem? (i := 191) rfl), lw_t4 (List.mem_of_getElem? (i := 192) rfl)⟩
theorem lw_p20 : lw_okq (⟨"java/lang/Throwable", "fillInStackTrace", "(I)Ljava/lang/Throwable;"⟩, 6) := ⟨⟨by decide +kernel, by decide +kernel⟩, lw_t5 (List.mem_of_getElem? (i := 15) rfl), lw_t5 (List.mem_of_getElem? (i := 13) rfl), lw_t5 (List.mem_of_getElem? (i := 14) rfl)⟩
theorem lw_p21 : lw_okq (⟨"FerryHall$Reader", "next", "()V"⟩, 8) := ⟨⟨by decide +kernel, by decide +kernel⟩, lw_t5 (List.mem_of_getElem? (i := 41) rfl), lw_t5 (List.mem_of_getElem? (i := 79) rfl), lw_t5 (List.mem_of_getElem? (i := 80) rfl)⟩
theorem lw_p22 : lw_okq (⟨"FerryHall$Reader", "here", "()I"⟩, 8) := ⟨⟨by decide +kernel, by decide +kernel⟩, lw_t5 (List.mem_of_getElem? (i := 41) rfl), lw_t5 (List.mem_of_getElem? (i := 83) rfl), lw_t5 (List.mem_of_getElem? (i := 84) rfl)⟩
theorem lw_p23 : lw_okq (⟨"FerryHall$Reader", "isLetter", "()Z"⟩, 8) := ⟨⟨by decide +kernel, by decide +kernel⟩, lw_t5 (List.mem_of_getElem? (i := 41) rfl), lw_t5 (List.mem_of_getElem? (i := 87) rfl), lw_t5 (List.mem_of_getElem? (i := 88) rfl)⟩
theorem lw_p24 : lw_okq (⟨"FerryHall$Reader", "isDigit", "()Z"⟩, 8) := ⟨⟨by decide +kernel, by decide +kernel⟩, lw_t5 (List.mem_of_getElem? (i := 41) rfl), lw_t5 (List.mem_of_getElem? (i := 92) rfl), lw_t5 (List.mem_of_getElem? (i := 93) rfl)⟩
theorem lw_p25 : lw_okq (⟨"FerryHall$Reader", "is", "(Ljava/lang/String;)Z"⟩, 8) := ⟨⟨by decide +kernel, by decide +kernel⟩, lw_t5 (List.mem_of_getElem? (i := 41) rfl), lw_t5 (List.mem_of_getElem? (i := 168) rfl), lw_t5 (List.mem_of_getElem? (i := 169) rfl)⟩
theorem lw_p26 : lw_okq (⟨"FerryHall$Reader", "number", "(II)I"⟩, 8) := ⟨⟨by decide +kernel, by decide +kernel⟩, lw_t5 (List.mem_of_getElem? (i := 41) rfl), lw_t5 (List.mem_of_getElem? (i := 188) rfl), lw_t5 (List.mem_of_getElem? (i := 189) rfl)⟩
theorem lw_p27 : lw_okq (⟨"FerryHall$Reader", "want", "(ZI)V"⟩, 8) := ⟨⟨by decide +kernel, by decide +kernel⟩, lw_t5 (List.mem_of_getElem? (i := 41) rfl), lw_t5 (List.mem_of_getElem? (i := 192) rfl), lw_t5 (List.mem_of_getElem? (i := 193) rfl)⟩
theorem lw_p28 : lw_okq (⟨"FerryHall$Reader", "need", "(I)V"⟩, 8) := ⟨⟨by decide +kernel, by decide +kernel⟩, lw_t5 (List.mem_of_getElem? (i := 41) rfl), lw_t5 (List.mem_of_getElem? (i := 220) rfl), lw_t5 (List.mem_of_getElem? (i := 221) rfl)⟩
theorem lw_p29 : lw_okq (⟨"FerryHall$Reader", "isSign", "(I)Z"⟩, 8) := ⟨⟨by decide +kernel, by decide +kernel⟩, lw_t5 (List.mem_of_getElem? (i := 41) rfl), lw_t5 (List.mem_of_getElem? (i := 224) rfl), lw_t5 (List.mem_of_getElem? (i := 225) rfl)⟩
theorem lw_p30 : lw_okq (⟨"FerryHall$Reader", "thing", "()V"⟩, 8) := ⟨⟨by decide +kernel, by decide +kernel⟩, lw_t5 (List.mem_of_getElem? (i := 41) rfl), lw_t5 (List.mem_of_getElem? (i := 229) rfl), lw_t5 (List.mem_of_getElem? (i := 230) rfl)⟩
theorem lw_p31 : lw_okq (⟨"FerryHall$Reader", "isName", "()Z"⟩, 8) := ⟨⟨by decide +kernel, by decide +kernel⟩, lw_t5 (List.mem_of_getElem? (i := 41) rfl), lw_t5 (List.mem_of_getElem? (i := 233) rfl), lw_t5 (List.mem_of_getElem? (i := 234) rfl)⟩
def lw_privs_2 : List (MethodName × Nat) := [(⟨"FerryHall$Rounds", "come", "()V"⟩, 9), (⟨"FerryHall$Rounds", "pair", "(I)V"⟩, 9), (⟨"FerryHall$Rounds", "both", "(III)Z"⟩, 9), (⟨"java/util/ArrayList", "fastRemove", "([Ljava/lang/Object;I)V"⟩, 3), (⟨"java/lang/Throwable", "fillInStackTrace", "(I)Ljava/lang/Throwable;"⟩, 6), (⟨"FerryHall$Reader", "next", "()V"⟩, 8), (⟨"FerryHall$Reader", "here", "()I"⟩, 8), (⟨"FerryHall$Reader", "isLetter", "()Z"⟩, 8), (⟨"FerryHall$Reader", "isDigit", "()Z"⟩, 8), (⟨"FerryHall$Reader", "is", "(Ljava/lang/String;)Z"⟩, 8), (⟨"FerryHall$Reader", "number", "(II)I"⟩, 8), (⟨"FerryHall$Reader", "want", "(ZI)V"⟩, 8), (⟨"FerryHall$Reader", "need", "(I)V"⟩, 8), (⟨"FerryHall$Reader", "isSign", "(I)Z"⟩, 8), (⟨"FerryHall$Reader", "thing", "()V"⟩, 8), (⟨"FerryHall$Reader", "isName", "()Z"⟩, 8)]
theorem lw_r2 : ∀ q ∈ lw_privs_2, lw_okq q := List.forall_mem_cons.mpr ⟨lw_p16, List.forall_mem_cons.mpr ⟨lw_p17, List.forall_mem_cons.mpr ⟨lw_p18, List.forall_mem_cons.mpr ⟨lw_p19, List.forall_mem_cons.mpr ⟨lw_p20, List.forall_mem_cons.mpr ⟨lw_p21, List.forall_mem_cons.mpr ⟨lw_p22, List.forall_mem_cons.mpr ⟨lw_p23, List.forall_mem_cons.mpr ⟨lw_p24, List.forall_mem_cons.mpr ⟨lw_p25, List.forall_mem_cons.mpr ⟨lw_p26, List.forall_mem_cons.mpr ⟨lw_p27, List.forall_mem_cons.mpr ⟨lw_p28, List.forall_mem_cons.mpr ⟨lw_p29, List.forall_mem_cons.mpr ⟨lw_p30, List.forall_mem_cons.mpr ⟨lw_p31, fun _ h => absurd h List.not_mem_nil⟩⟩⟩⟩⟩⟩⟩⟩⟩⟩⟩⟩⟩⟩⟩⟩
theorem lw_p32 : lw_okq (⟨"FerryHall$Reader", "word", "(Ljava/lang/String;)V"⟩, 8) := ⟨⟨by decide +kernel, by decide +kernel⟩, lw_t5 (List.mem_of_getElem? (i := 41) rfl), lw_t6 (List.mem_of_getElem? (i := 2) rfl), lw_t6 (List.mem_of_getElem? (i := 3) rfl)⟩
theorem lw_p33 : lw_okq (⟨"FerryHall$Reader", "boat", "()V"⟩, 8) := ⟨⟨by decide +kernel, by decide +kernel⟩, lw_t5 (List.mem_of_getElem? (i := 41) rfl), lw_t6 (List.mem_of_getElem? (i := 8) rfl), lw_t6 (List.mem_of_getElem? (i := 9) rfl)⟩
theorem lw_p34 : lw_okq (⟨"FerryHall$Reader", "shore", "()I"⟩, 8) := ⟨⟨by decide +kernel, by decide +kernel⟩, lw_t5 (List.mem_of_getElem? (i := 41) rfl), lw_t6 (List.mem_of_getElem? (i := 17) rfl), lw_t6 (List.mem_of_getElem? (i := 18) rfl)⟩
theorem lw_p35 : lw_okq (⟨"FerryHall$Reader", "water", "(Z)V"⟩, 8) := ⟨⟨by decide +kernel, by decide +kernel⟩, lw_t5 (List.mem_of_getElem? (i := 41) rfl), lw_t6 (List.mem_of_getElem? (i := 46) rfl), lw_t6 (List.mem_of_getElem? (i := 47) rfl)⟩
theorem lw_p36 : lw_okq (⟨"FerryHall$Reader", "lamp", "()V"⟩, 8) := ⟨⟨by decide +kernel, by decide +kernel⟩, lw_t5 (List.mem_of_getElem? (i := 41) rfl), lw_t6 (List.mem_of_getElem? (i := 52) rfl), lw_t6 (List.mem_of_getElem? (i := 53) rfl)⟩
theorem lw_p37 : lw_okq (⟨"FerryHall$Reader", "never", "()V"⟩, 8) := ⟨⟨by decide +kernel, by decide +kernel⟩, lw_t5 (List.mem_of_getElem? (i := 41) rfl), lw_t6 (List.mem_of_getElem? (i := 57) rfl), lw_t6 (List.mem_of_getElem? (i := 58) rfl)⟩
theorem lw_p38 : lw_okq (⟨"FerryHall$Reader", "expression", "(I)LFerryHall$Ex;"⟩, 8) := ⟨⟨by decide +kernel, by decide +kernel⟩, lw_t5 (List.mem_of_getElem? (i := 41) rfl), lw_t6 (List.mem_of_getElem? (i := 63) rfl), lw_t6 (List.mem_of_getElem? (i := 64) rfl)⟩
theorem lw_p39 : lw_okq (⟨"FerryHall$Reader", "and", "(I)LFerryHall$Ex;"⟩, 8) := ⟨⟨by decide +kernel, by decide +kernel⟩, lw_t5 (List.mem_of_getElem? (i := 41) rfl), lw_t6 (List.mem_of_getElem? (i := 69) rfl), lw_t6 (List.mem_of_getElem? (i := 70) rfl)⟩
theorem lw_p40 : lw_okq (⟨"FerryHall$Reader", "not", "(I)LFerryHall$Ex;"⟩, 8) := ⟨⟨by decide +kernel, by decide +kernel⟩, lw_t5 (List.mem_of_getElem? (i := 41) rfl), lw_t6 (List.mem_of_getElem? (i := 73) rfl), lw_t6 (List.mem_of_getElem? (i := 74) rfl)⟩
theorem lw_p41 : lw_okq (⟨"FerryHall$Reader", "sum", "(I)LFerryHall$Ex;"⟩, 8) := ⟨⟨by decide +kernel, by decide +kernel⟩, lw_t5 (List.mem_of_getElem? (i := 41) rfl), lw_t6 (List.mem_of_getElem? (i := 78) rfl), lw_t6 (List.mem_of_getElem? (i := 79) rfl)⟩
theorem lw_p42 : lw_okq (⟨"FerryHall$Reader", "product", "(I)LFerryHall$Ex;"⟩, 8) := ⟨⟨by decide +kernel, by decide +kernel⟩, lw_t5 (List.mem_of_getElem? (i := 41) rfl), lw_t6 (List.mem_of_getElem? (i := 82) rfl), lw_t6 (List.mem_of_getElem? (i := 83) rfl)⟩
theorem lw_p43 : lw_okq (⟨"FerryHall$Reader", "part", "(I)LFerryHall$Ex;"⟩, 8) := ⟨⟨by decide +kernel, by decide +kernel⟩, lw_t5 (List.mem_of_getElem? (i := 41) rfl), lw_t6 (List.mem_of_getElem? (i := 86) rfl), lw_t6 (List.mem_of_getElem? (i := 87) rfl)⟩
theorem lw_p44 : lw_okq (⟨"FerryHall$Reader", "valueNow", "()I"⟩, 8) := ⟨⟨by decide +kernel, by decide +kernel⟩, lw_t5 (List.mem_of_getElem? (i := 41) rfl), lw_t6 (List.mem_of_getElem? (i := 113) rfl), lw_t6 (List.mem_of_getElem? (i := 114) rfl)⟩
theorem lw_p45 : lw_okq (⟨"FerryHall$Reader", "sign", "()C"⟩, 8) := ⟨⟨by decide +kernel, by decide +kernel⟩, lw_t5 (List.mem_of_getElem? (i := 41) rfl), lw_t7 (List.mem_of_getElem? (i := 131) rfl), lw_t7 (List.mem_of_getElem? (i := 132) rfl)⟩
theorem lw_p46 : lw_okq (⟨"FerryHall", "aThing", "(I)V"⟩, 19) := ⟨⟨by decide +kernel, by decide +kernel⟩, lw_t1 (List.mem_of_getElem? (i := 43) rfl), lw_t7 (List.mem_of_getElem? (i := 208) rfl), lw_t7 (List.mem_of_getElem? (i := 209) rfl)⟩
theorem lw_p47 : lw_okq (⟨"FerryHall", "behind", "(I)LFerryHall$Place;"⟩, 19) := ⟨⟨by decide +kernel, by decide +kernel⟩, lw_t1 (List.mem_of_getElem? (i := 43) rfl), lw_t8 (List.mem_of_getElem? (i := 29) rfl), lw_t8 (List.mem_of_getElem? (i := 30) rfl)⟩
def lw_privs_3 : List (MethodName × Nat) := [(⟨"FerryHall$Reader", "word", "(Ljava/lang/String;)V"⟩, 8), (⟨"FerryHall$Reader", "boat", "()V"⟩, 8), (⟨"FerryHall$Reader", "shore", "()I"⟩, 8), (⟨"FerryHall$Reader", "water", "(Z)V"⟩, 8), (⟨"FerryHall$Reader", "lamp", "()V"⟩, 8), (⟨"FerryHall$Reader", "never", "()V"⟩, 8), (⟨"FerryHall$Reader", "expression", "(I)LFerryHall$Ex;"⟩, 8), (⟨"FerryHall$Reader", "and", "(I)LFerryHall$Ex;"⟩, 8), (⟨"FerryHall$Reader", "not", "(I)LFerryHall$Ex;"⟩, 8), (⟨"FerryHall$Reader", "sum", "(I)LFerryHall$Ex;"⟩, 8), (⟨"FerryHall$Reader", "product", "(I)LFerryHall$Ex;"⟩, 8), (⟨"FerryHall$Reader", "part", "(I)LFerryHall$Ex;"⟩, 8), (⟨"FerryHall$Reader", "valueNow", "()I"⟩, 8), (⟨"FerryHall$Reader", "sign", "()C"⟩, 8), (⟨"FerryHall", "aThing", "(I)V"⟩, 19), (⟨"FerryHall", "behind", "(I)LFerryHall$Place;"⟩, 19)]
theorem lw_r3 : ∀ q ∈ lw_privs_3, lw_okq q := List.forall_mem_cons.mpr ⟨lw_p32, List.forall_mem_cons.mpr ⟨lw_p33, List.forall_mem_cons.mpr ⟨lw_p34, List.forall_mem_cons.mpr ⟨lw_p35, List.forall_mem_cons.mpr ⟨lw_p36, List.forall_mem_cons.mpr ⟨lw_p37, List.forall_mem_cons.mpr ⟨lw_p38, List.forall_mem_cons.mpr ⟨lw_p39, List.forall_mem_cons.mpr ⟨lw_p40, List.forall_mem_cons.mpr ⟨lw_p41, List.forall_mem_cons.mpr ⟨lw_p42, List.forall_mem_cons.mpr ⟨lw_p43, List.forall_mem_cons.mpr ⟨lw_p44, List.forall_mem_cons.mpr ⟨lw_p45, List.forall_mem_cons.mpr ⟨lw_p46, List.forall_mem_cons.mpr ⟨lw_p47, fun _ h => absurd h List.not_mem_nil⟩⟩⟩⟩⟩⟩⟩⟩⟩⟩⟩⟩⟩⟩⟩⟩
theorem lw_p48 : lw_okq (⟨"FerryHall", "tellLaws", "()V"⟩, 19) := ⟨⟨by decide +kernel, by decide +kernel⟩, lw_t1 (List.mem_of_getElem? (i := 43) rfl), lw_t8 (List.mem_of_getElem? (i := 48) rfl), lw_t8 (List.mem_of_getElem? (i := 49) rfl)⟩
theorem lw_p49 : lw_okq (⟨"FerryHall", "holdSize", "()I"⟩, 19) := ⟨⟨by decide +kernel, by decide +kernel⟩, lw_t1 (List.mem_of_getElem? (i := 43) rfl), lw_t8 (List.mem_of_getElem? (i := 59) rfl), lw_t8 (List.mem_of_getElem? (i := 60) rfl)⟩
theorem lw_p50 : lw_okq (⟨"FerryHall", "tries", "(II)I"⟩, 19) := ⟨⟨by decide +kernel, by decide +kernel⟩, lw_t1 (List.mem_of_getElem? (i := 43) rfl), lw_t8 (List.mem_of_getElem? (i := 63) rfl), lw_t8 (List.mem_of_getElem? (i := 64) rfl)⟩
theorem lw_p51 : lw_okq (⟨"FerryHall", "loadSize", "()I"⟩, 19) := ⟨⟨by decide +kernel, by decide +kernel⟩, lw_t1 (List.mem_of_getElem? (i := 43) rfl), lw_t8 (List.mem_of_getElem? (i := 67) rfl), lw_t8 (List.mem_of_getElem? (i := 68) rfl)⟩
theorem lw_p52 : lw_okq (⟨"FerryHall", "areAlike", "(II)Z"⟩, 19) := ⟨⟨by decide +kernel, by decide +kernel⟩, lw_t1 (List.mem_of_getElem? (i := 43) rfl), lw_t8 (List.mem_of_getElem? (i := 78) rfl), lw_t8 (List.mem_of_getElem? (i := 79) rfl)⟩
theorem lw_p53 : lw_okq (⟨"FerryHallModel", "begins", "()V"⟩, 88) := ⟨⟨by decide +kernel, by decide +kernel⟩, lw_t8 (List.mem_of_getElem? (i := 104) rfl), lw_t8 (List.mem_of_getElem? (i := 111) rfl), lw_t8 (List.mem_of_getElem? (i := 112) rfl)⟩
theorem lw_p54 : lw_okq (⟨"FerryHallModel", "start", "()I"⟩, 88) := ⟨⟨by decide +kernel, by decide +kernel⟩, lw_t8 (List.mem_of_getElem? (i := 104) rfl), lw_t8 (List.mem_of_getElem? (i := 115) rfl), lw_t8 (List.mem_of_getElem? (i := 116) rfl)⟩
theorem lw_p55 : lw_okq (⟨"FerryHallModel", "lays", "(I)V"⟩, 88) := ⟨⟨by decide +kernel, by decide +kernel⟩, lw_t8 (List.mem_of_getElem? (i := 104) rfl), lw_t9 (List.mem_of_getElem? (i := 152) rfl), lw_t9 (List.mem_of_getElem? (i := 153) rfl)⟩
theorem lw_p56 : lw_okq (⟨"FerryHallModel", "right", "(ZI)Z"⟩, 88) := ⟨⟨by decide +kernel, by decide +kernel⟩, lw_t8 (List.mem_of_getElem? (i := 104) rfl), lw_t9 (List.mem_of_getElem? (i := 160) rfl), lw_t9 (List.mem_of_getElem? (i := 161) rfl)⟩
theorem lw_p57 : lw_okq (⟨"FerryHallModel", "goes", "()V"⟩, 88) := ⟨⟨by decide +kernel, by decide +kernel⟩, lw_t8 (List.mem_of_getElem? (i := 104) rfl), lw_t9 (List.mem_of_getElem? (i := 164) rfl), lw_t9 (List.mem_of_getElem? (i := 165) rfl)⟩
theorem lw_p58 : lw_okq (⟨"FerryHallModel", "byteAt", "(I)I"⟩, 88) := ⟨⟨by decide +kernel, by decide +kernel⟩, lw_t8 (List.mem_of_getElem? (i := 104) rfl), lw_t9 (List.mem_of_getElem? (i := 168) rfl), lw_t9 (List.mem_of_getElem? (i := 169) rfl)⟩
theorem lw_p59 : lw_okq (⟨"FerryHallModel", "knownWord", "()I"⟩, 88) := ⟨⟨by decide +kernel, by decide +kernel⟩, lw_t8 (List.mem_of_getElem? (i := 104) rfl), lw_t9 (List.mem_of_getElem? (i := 178) rfl), lw_t9 (List.mem_of_getElem? (i := 179) rfl)⟩
theorem lw_p60 : lw_okq (⟨"FerryHallModel", "number", "(II)I"⟩, 88) := ⟨⟨by decide +kernel, by decide +kernel⟩, lw_t8 (List.mem_of_getElem? (i := 104) rfl), lw_t9 (List.mem_of_getElem? (i := 188) rfl), lw_t9 (List.mem_of_getElem? (i := 189) rfl)⟩
theorem lw_p61 : lw_okq (⟨"FerryHallModel", "isGood", "()Z"⟩, 88) := ⟨⟨by decide +kernel, by decide +kernel⟩, lw_t8 (List.mem_of_getElem? (i := 104) rfl), lw_t9 (List.mem_of_getElem? (i := 192) rfl), lw_t9 (List.mem_of_getElem? (i := 193) rfl)⟩
theorem lw_p62 : lw_okq (⟨"FerryHallModel", "wrong", "(I)V"⟩, 88) := ⟨⟨by decide +kernel, by decide +kernel⟩, lw_t8 (List.mem_of_getElem? (i := 104) rfl), lw_t9 (List.mem_of_getElem? (i := 196) rfl), lw_t9 (List.mem_of_getElem? (i := 197) rfl)⟩
theorem lw_p63 : lw_okq (⟨"FerryHallModel", "isSign", "(I)Z"⟩, 88) := ⟨⟨by decide +kernel, by decide +kernel⟩, lw_t8 (List.mem_of_getElem? (i := 104) rfl), lw_t9 (List.mem_of_getElem? (i := 200) rfl), lw_t9 (List.mem_of_getElem? (i := 201) rfl)⟩
def lw_privs_4 : List (MethodName × Nat) := [(⟨"FerryHall", "tellLaws", "()V"⟩, 19), (⟨"FerryHall", "holdSize", "()I"⟩, 19), (⟨"FerryHall", "tries", "(II)I"⟩, 19), (⟨"FerryHall", "loadSize", "()I"⟩, 19), (⟨"FerryHall", "areAlike", "(II)Z"⟩, 19), (⟨"FerryHallModel", "begins", "()V"⟩, 88), (⟨"FerryHallModel", "start", "()I"⟩, 88), (⟨"FerryHallModel", "lays", "(I)V"⟩, 88), (⟨"FerryHallModel", "right", "(ZI)Z"⟩, 88), (⟨"FerryHallModel", "goes", "()V"⟩, 88), (⟨"FerryHallModel", "byteAt", "(I)I"⟩, 88), (⟨"FerryHallModel", "knownWord", "()I"⟩, 88), (⟨"FerryHallModel", "number", "(II)I"⟩, 88), (⟨"FerryHallModel", "isGood", "()Z"⟩, 88), (⟨"FerryHallModel", "wrong", "(I)V"⟩, 88), (⟨"FerryHallModel", "isSign", "(I)Z"⟩, 88)]
theorem lw_r4 : ∀ q ∈ lw_privs_4, lw_okq q := List.forall_mem_cons.mpr ⟨lw_p48, List.forall_mem_cons.mpr ⟨lw_p49, List.forall_mem_cons.mpr ⟨lw_p50, List.forall_mem_cons.mpr ⟨lw_p51, List.forall_mem_cons.mpr ⟨lw_p52, List.forall_mem_cons.mpr ⟨lw_p53, List.forall_mem_cons.mpr ⟨lw_p54, List.forall_mem_cons.mpr ⟨lw_p55, List.forall_mem_cons.mpr ⟨lw_p56, List.forall_mem_cons.mpr ⟨lw_p57, List.forall_mem_cons.mpr ⟨lw_p58, List.forall_mem_cons.mpr ⟨lw_p59, List.forall_mem_cons.mpr ⟨lw_p60, List.forall_mem_cons.mpr ⟨lw_p61, List.forall_mem_cons.mpr ⟨lw_p62, List.forall_mem_cons.mpr ⟨lw_p63, fun _ h => absurd h List.not_mem_nil⟩⟩⟩⟩⟩⟩⟩⟩⟩⟩⟩⟩⟩⟩⟩⟩
theorem lw_p64 : lw_okq (⟨"FerryHallModel", "clause", "()V"⟩, 88) := ⟨⟨by decide +kernel, by decide +kernel⟩, lw_t8 (List.mem_of_getElem? (i := 104) rfl), lw_t9 (List.mem_of_getElem? (i := 204) rfl), lw_t9 (List.mem_of_getElem? (i := 205) rfl)⟩
theorem lw_p65 : lw_okq (⟨"FerryHallModel", "thing", "()V"⟩, 88) := ⟨⟨by decide +kernel, by decide +kernel⟩, lw_t8 (List.mem_of_getElem? (i := 104) rfl), lw_t9 (List.mem_of_getElem? (i := 208) rfl), lw_t9 (List.mem_of_getElem? (i := 209) rfl)⟩
theorem lw_p66 : lw_okq (⟨"FerryHallModel", "named", "(I)I"⟩, 88) := ⟨⟨by decide +kernel, by decide +kernel⟩, lw_t8 (List.mem_of_getElem? (i := 104) rfl), lw_t9 (List.mem_of_getElem? (i := 212) rfl), lw_t9 (List.mem_of_getElem? (i := 213) rfl)⟩
theorem lw_p67 : lw_okq (⟨"FerryHallModel", "need", "(I)V"⟩, 88) := ⟨⟨by decide +kernel, by decide +kernel⟩, lw_t8 (List.mem_of_getElem? (i := 104) rfl), lw_t9 (List.mem_of_getElem? (i := 216) rfl), lw_t9 (List.mem_of_getElem? (i := 217) rfl)⟩
theorem lw_p68 : lw_okq (⟨"FerryHallModel", "boat", "()V"⟩, 88) := ⟨⟨by decide +kernel, by decide +kernel⟩, lw_t8 (List.mem_of_getElem? (i := 104) rfl), lw_t9 (List.mem_of_getElem? (i := 220) rfl), lw_t9 (List.mem_of_getElem? (i := 221) rfl)⟩
theorem lw_p69 : lw_okq (⟨"FerryHallModel", "shore", "(I)I"⟩, 88) := ⟨⟨by decide +kernel, by decide +kernel⟩, lw_t8 (List.mem_of_getElem? (i := 104) rfl), lw_t9 (List.mem_of_getElem? (i := 224) rfl), lw_t9 (List.mem_of_getElem? (i := 225) rfl)⟩
theorem lw_p70 : lw_okq (⟨"FerryHallModel", "water", "(Z)V"⟩, 88) := ⟨⟨by decide +kernel, by decide +kernel⟩, lw_t8 (List.mem_of_getElem? (i := 104) rfl), lw_t9 (List.mem_of_getElem? (i := 228) rfl), lw_t9 (List.mem_of_getElem? (i := 229) rfl)⟩
theorem lw_p71 : lw_okq (⟨"FerryHallModel", "lamp", "()V"⟩, 88) := ⟨⟨by decide +kernel, by decide +kernel⟩, lw_t8 (List.mem_of_getElem? (i := 104) rfl), lw_t9 (List.mem_of_getElem? (i := 232) rfl), lw_t9 (List.mem_of_getElem? (i := 233) rfl)⟩
theorem lw_p72 : lw_okq (⟨"FerryHallModel", "never", "()V"⟩, 88) := ⟨⟨by decide +kernel, by decide +kernel⟩, lw_t8 (List.mem_of_getElem? (i := 104) rfl), lw_t9 (List.mem_of_getElem? (i := 236) rfl), lw_t9 (List.mem_of_getElem? (i := 237) rfl)⟩
theorem lw_p73 : lw_okq (⟨"FerryHallModel", "expression", "()I"⟩, 88) := ⟨⟨by decide +kernel, by decide +kernel⟩, lw_t8 (List.mem_of_getElem? (i := 104) rfl), lw_t10 (List.mem_of_getElem? (i := 0) rfl), lw_t10 (List.mem_of_getElem? (i := 1) rfl)⟩
theorem lw_p74 : lw_okq (⟨"FerryHallModel", "deeper", "()V"⟩, 88) := ⟨⟨by decide +kernel, by decide +kernel⟩, lw_t8 (List.mem_of_getElem? (i := 104) rfl), lw_t10 (List.mem_of_getElem? (i := 4) rfl), lw_t10 (List.mem_of_getElem? (i := 5) rfl)⟩
theorem lw_p75 : lw_okq (⟨"FerryHallModel", "operand", "(Z)V"⟩, 88) := ⟨⟨by decide +kernel, by decide +kernel⟩, lw_t8 (List.mem_of_getElem? (i := 104) rfl), lw_t10 (List.mem_of_getElem? (i := 8) rfl), lw_t10 (List.mem_of_getElem? (i := 9) rfl)⟩
theorem lw_p76 : lw_okq (⟨"FerryHallModel", "waitsFor", "(I)V"⟩, 88) := ⟨⟨by decide +kernel, by decide +kernel⟩, lw_t8 (List.mem_of_getElem? (i := 104) rfl), lw_t10 (List.mem_of_getElem? (i := 12) rfl), lw_t10 (List.mem_of_getElem? (i := 13) rfl)⟩
theorem lw_p77 : lw_okq (⟨"FerryHallModel", "part", "()V"⟩, 88) := ⟨⟨by decide +kernel, by decide +kernel⟩, lw_t8 (List.mem_of_getElem? (i := 104) rfl), lw_t10 (List.mem_of_getElem? (i := 16) rfl), lw_t10 (List.mem_of_getElem? (i := 17) rfl)⟩
theorem lw_p78 : lw_okq (⟨"FerryHallModel", "puts", "(I)V"⟩, 88) := ⟨⟨by decide +kernel, by decide +kernel⟩, lw_t8 (List.mem_of_getElem? (i := 104) rfl), lw_t10 (List.mem_of_getElem? (i := 20) rfl), lw_t10 (List.mem_of_getElem? (i := 21) rfl)⟩
theorem lw_p79 : lw_okq (⟨"FerryHallModel", "drops", "(I)V"⟩, 88) := ⟨⟨by decide +kernel, by decide +kernel⟩, lw_t8 (List.mem_of_getElem? (i := 104) rfl), lw_t10 (List.mem_of_getElem? (i := 24) rfl), lw_t10 (List.mem_of_getElem? (i := 25) rfl)⟩
def lw_privs_5 : List (MethodName × Nat) := [(⟨"FerryHallModel", "clause", "()V"⟩, 88), (⟨"FerryHallModel", "thing", "()V"⟩, 88), (⟨"FerryHallModel", "named", "(I)I"⟩, 88), (⟨"FerryHallModel", "need", "(I)V"⟩, 88), (⟨"FerryHallModel", "boat", "()V"⟩, 88), (⟨"FerryHallModel", "shore", "(I)I"⟩, 88), (⟨"FerryHallModel", "water", "(Z)V"⟩, 88), (⟨"FerryHallModel", "lamp", "()V"⟩, 88), (⟨"FerryHallModel", "never", "()V"⟩, 88), (⟨"FerryHallModel", "expression", "()I"⟩, 88), (⟨"FerryHallModel", "deeper", "()V"⟩, 88), (⟨"FerryHallModel", "operand", "(Z)V"⟩, 88), (⟨"FerryHallModel", "waitsFor", "(I)V"⟩, 88), (⟨"FerryHallModel", "part", "()V"⟩, 88), (⟨"FerryHallModel", "puts", "(I)V"⟩, 88), (⟨"FerryHallModel", "drops", "(I)V"⟩, 88)]
theorem lw_r5 : ∀ q ∈ lw_privs_5, lw_okq q := List.forall_mem_cons.mpr ⟨lw_p64, List.forall_mem_cons.mpr ⟨lw_p65, List.forall_mem_cons.mpr ⟨lw_p66, List.forall_mem_cons.mpr ⟨lw_p67, List.forall_mem_cons.mpr ⟨lw_p68, List.forall_mem_cons.mpr ⟨lw_p69, List.forall_mem_cons.mpr ⟨lw_p70, List.forall_mem_cons.mpr ⟨lw_p71, List.forall_mem_cons.mpr ⟨lw_p72, List.forall_mem_cons.mpr ⟨lw_p73, List.forall_mem_cons.mpr ⟨lw_p74, List.forall_mem_cons.mpr ⟨lw_p75, List.forall_mem_cons.mpr ⟨lw_p76, List.forall_mem_cons.mpr ⟨lw_p77, List.forall_mem_cons.mpr ⟨lw_p78, List.forall_mem_cons.mpr ⟨lw_p79, fun _ h => absurd h List.not_mem_nil⟩⟩⟩⟩⟩⟩⟩⟩⟩⟩⟩⟩⟩⟩⟩⟩
theorem lw_p80 : lw_okq (⟨"FerryHallModel", "takes", "()V"⟩, 88) := ⟨⟨by decide +kernel, by decide +kernel⟩, lw_t8 (List.mem_of_getElem? (i := 104) rfl), lw_t10 (List.mem_of_getElem? (i := 31) rfl), lw_t10 (List.mem_of_getElem? (i := 32) rfl)⟩
theorem lw_p81 : lw_okq (⟨"FerryHallModel", "isGroup", "(II)Z"⟩, 88) := ⟨⟨by decide +kernel, by decide +kernel⟩, lw_t8 (List.mem_of_getElem? (i := 104) rfl), lw_t10 (List.mem_of_getElem? (i := 43) rfl), lw_t10 (List.mem_of_getElem? (i := 44) rfl)⟩
theorem lw_p82 : lw_okq (⟨"FerryHallModel", "all", "()I"⟩, 88) := ⟨⟨by decide +kernel, by decide +kernel⟩, lw_t8 (List.mem_of_getElem? (i := 104) rfl), lw_t10 (List.mem_of_getElem? (i := 47) rfl), lw_t10 (List.mem_of_getElem? (i := 48) rfl)⟩
theorem lw_p83 : lw_okq (⟨"FerryHallModel", "barsOf", "(IIII)I"⟩, 88) := ⟨⟨by decide +kernel, by decide +kernel⟩, lw_t8 (List.mem_of_getElem? (i := 104) rfl), lw_t10 (List.mem_of_getElem? (i := 51) rfl), lw_t10 (List.mem_of_getElem? (i := 52) rfl)⟩
theorem lw_p84 : lw_okq (⟨"FerryHallModel", "worth", "(IIIII)I"⟩, 88) := ⟨⟨by decide +kernel, by decide +kernel⟩, lw_t8 (List.mem_of_getElem? (i := 104) rfl), lw_t10 (List.mem_of_getElem? (i := 55) rfl), lw_t10 (List.mem_of_getElem? (i := 56) rfl)⟩
theorem lw_p85 : lw_okq (⟨"FerryHallModel", "valueOf", "(IIIII)I"⟩, 88) := ⟨⟨by decide +kernel, by decide +kernel⟩, lw_t8 (List.mem_of_getElem? (i := 104) rfl), lw_t10 (List.mem_of_getElem? (i := 59) rfl), lw_t10 (List.mem_of_getElem? (i := 60) rfl)⟩
theorem lw_p86 : lw_okq (⟨"FerryHallModel", "sumOf", "(I[I)I"⟩, 88) := ⟨⟨by decide +kernel, by decide +kernel⟩, lw_t8 (List.mem_of_getElem? (i := 104) rfl), lw_t10 (List.mem_of_getElem? (i := 66) rfl), lw_t10 (List.mem_of_getElem? (i := 67) rfl)⟩
theorem lw_p87 : lw_okq (⟨"FerryHallModel", "rowers", "(I)I"⟩, 88) := ⟨⟨by decide +kernel, by decide +kernel⟩, lw_t8 (List.mem_of_getElem? (i := 104) rfl), lw_t10 (List.mem_of_getElem? (i := 70) rfl), lw_t10 (List.mem_of_getElem? (i := 71) rfl)⟩
theorem lw_p88 : lw_okq (⟨"FerryHallModel", "areAlike", "(II)Z"⟩, 88) := ⟨⟨by decide +kernel, by decide +kernel⟩, lw_t8 (List.mem_of_getElem? (i := 104) rfl), lw_t10 (List.mem_of_getElem? (i := 85) rfl), lw_t10 (List.mem_of_getElem? (i := 86) rfl)⟩
theorem lw_p89 : lw_okq (⟨"FerryHallModel", "isWater", "(II)Z"⟩, 88) := ⟨⟨by decide +kernel, by decide +kernel⟩, lw_t8 (List.mem_of_getElem? (i := 104) rfl), lw_t10 (List.mem_of_getElem? (i := 105) rfl), lw_t10 (List.mem_of_getElem? (i := 106) rfl)⟩
theorem lw_p90 : lw_okq (⟨"FerryHallModel", "finds", "()Z"⟩, 88) := ⟨⟨by decide +kernel, by decide +kernel⟩, lw_t8 (List.mem_of_getElem? (i := 104) rfl), lw_t10 (List.mem_of_getElem? (i := 113) rfl), lw_t10 (List.mem_of_getElem? (i := 114) rfl)⟩
theorem lw_p91 : lw_okq (⟨"FerryHallModel", "explores", "(I)Z"⟩, 88) := ⟨⟨by decide +kernel, by decide +kernel⟩, lw_t8 (List.mem_of_getElem? (i := 104) rfl), lw_t10 (List.mem_of_getElem? (i := 117) rfl), lw_t10 (List.mem_of_getElem? (i := 118) rfl)⟩
theorem lw_p92 : lw_okq (⟨"FerryHallModel", "sets", "()V"⟩, 88) := ⟨⟨by decide +kernel, by decide +kernel⟩, lw_t8 (List.mem_of_getElem? (i := 104) rfl), lw_t10 (List.mem_of_getElem? (i := 121) rfl), lw_t10 (List.mem_of_getElem? (i := 122) rfl)⟩
theorem lw_p93 : lw_okq (⟨"FerryHallModel", "numberOf", "(I)I"⟩, 88) := ⟨⟨by decide +kernel, by decide +kernel⟩, lw_t8 (List.mem_of_getElem? (i := 104) rfl), lw_t10 (List.mem_of_getElem? (i := 125) rfl), lw_t10 (List.mem_of_getElem? (i := 126) rfl)⟩
theorem lw_p94 : lw_okq (⟨"FerryHallModel", "barsShores", "(IIIZ)I"⟩, 88) := ⟨⟨by decide +kernel, by decide +kernel⟩, lw_t8 (List.mem_of_getElem? (i := 104) rfl), lw_t10 (List.mem_of_getElem? (i := 129) rfl), lw_t10 (List.mem_of_getElem? (i := 130) rfl)⟩
theorem lw_p95 : lw_okq (⟨"FerryHallModel", "setAt", "(II)I"⟩, 88) := ⟨⟨by decide +kernel, by decide +kernel⟩, lw_t8 (List.mem_of_getElem? (i := 104) rfl), lw_t10 (List.mem_of_getElem? (i := 136) rfl), lw_t10 (List.mem_of_getElem? (i := 137) rfl)⟩
def lw_privs_6 : List (MethodName × Nat) := [(⟨"FerryHallModel", "takes", "()V"⟩, 88), (⟨"FerryHallModel", "isGroup", "(II)Z"⟩, 88), (⟨"FerryHallModel", "all", "()I"⟩, 88), (⟨"FerryHallModel", "barsOf", "(IIII)I"⟩, 88), (⟨"FerryHallModel", "worth", "(IIIII)I"⟩, 88), (⟨"FerryHallModel", "valueOf", "(IIIII)I"⟩, 88), (⟨"FerryHallModel", "sumOf", "(I[I)I"⟩, 88), (⟨"FerryHallModel", "rowers", "(I)I"⟩, 88), (⟨"FerryHallModel", "areAlike", "(II)Z"⟩, 88), (⟨"FerryHallModel", "isWater", "(II)Z"⟩, 88), (⟨"FerryHallModel", "finds", "()Z"⟩, 88), (⟨"FerryHallModel", "explores", "(I)Z"⟩, 88), (⟨"FerryHallModel", "sets", "()V"⟩, 88), (⟨"FerryHallModel", "numberOf", "(I)I"⟩, 88), (⟨"FerryHallModel", "barsShores", "(IIIZ)I"⟩, 88), (⟨"FerryHallModel", "setAt", "(II)I"⟩, 88)]
theorem lw_r6 : ∀ q ∈ lw_privs_6, lw_okq q := List.forall_mem_cons.mpr ⟨lw_p80, List.forall_mem_cons.mpr ⟨lw_p81, List.forall_mem_cons.mpr ⟨lw_p82, List.forall_mem_cons.mpr ⟨lw_p83, List.forall_mem_cons.mpr ⟨lw_p84, List.forall_mem_cons.mpr ⟨lw_p85, List.forall_mem_cons.mpr ⟨lw_p86, List.forall_mem_cons.mpr ⟨lw_p87, List.forall_mem_cons.mpr ⟨lw_p88, List.forall_mem_cons.mpr ⟨lw_p89, List.forall_mem_cons.mpr ⟨lw_p90, List.forall_mem_cons.mpr ⟨lw_p91, List.forall_mem_cons.mpr ⟨lw_p92, List.forall_mem_cons.mpr ⟨lw_p93, List.forall_mem_cons.mpr ⟨lw_p94, List.forall_mem_cons.mpr ⟨lw_p95, fun _ h => absurd h List.not_mem_nil⟩⟩⟩⟩⟩⟩⟩⟩⟩⟩⟩⟩⟩⟩⟩⟩
theorem lw_p96 : lw_okq (⟨"FerryHallModel", "keeps", "(I)I"⟩, 88) := ⟨⟨by decide +kernel, by decide +kernel⟩, lw_t8 (List.mem_of_getElem? (i := 104) rfl), lw_t10 (List.mem_of_getElem? (i := 140) rfl), lw_t10 (List.mem_of_getElem? (i := 141) rfl)⟩
theorem lw_p97 : lw_okq (⟨"FerryHallModel", "goesBy", "(III)V"⟩, 88) := ⟨⟨by decide +kernel, by decide +kernel⟩, lw_t8 (List.mem_of_getElem? (i := 104) rfl), lw_t10 (List.mem_of_getElem? (i := 144) rfl), lw_t10 (List.mem_of_getElem? (i := 145) rfl)⟩
theorem lw_p98 : lw_okq (⟨"FerryHallModel", "aboard", "(I)I"⟩, 88) := ⟨⟨by decide +kernel, by decide +kernel⟩, lw_t8 (List.mem_of_getElem? (i := 104) rfl), lw_t10 (List.mem_of_getElem? (i := 148) rfl), lw_t10 (List.mem_of_getElem? (i := 149) rfl)⟩
theorem lw_p99 : lw_okq (⟨"FerryHallModel", "behind", "(IIII)I"⟩, 88) := ⟨⟨by decide +kernel, by decide +kernel⟩, lw_t8 (List.mem_of_getElem? (i := 104) rfl), lw_t10 (List.mem_of_getElem? (i := 152) rfl), lw_t10 (List.mem_of_getElem? (i := 153) rfl)⟩
theorem lw_p100 : lw_okq (⟨"FerryHallModel", "measures", "()V"⟩, 88) := ⟨⟨by decide +kernel, by decide +kernel⟩, lw_t8 (List.mem_of_getElem? (i := 104) rfl), lw_t10 (List.mem_of_getElem? (i := 158) rfl), lw_t10 (List.mem_of_getElem? (i := 159) rfl)⟩
theorem lw_p101 : lw_okq (⟨"FerryHallModel", "isGoal", "(I)Z"⟩, 88) := ⟨⟨by decide +kernel, by decide +kernel⟩, lw_t8 (List.mem_of_getElem? (i := 104) rfl), lw_t10 (List.mem_of_getElem? (i := 162) rfl), lw_t10 (List.mem_of_getElem? (i := 163) rfl)⟩
theorem lw_p102 : lw_okq (⟨"FerryHallModel", "startsWay", "(I)V"⟩, 88) := ⟨⟨by decide +kernel, by decide +kernel⟩, lw_t8 (List.mem_of_getElem? (i := 104) rfl), lw_t10 (List.mem_of_getElem? (i := 170) rfl), lw_t10 (List.mem_of_getElem? (i := 171) rfl)⟩
theorem lw_p103 : lw_okq (⟨"FerryHallModel", "keepsEdge", "(I)V"⟩, 88) := ⟨⟨by decide +kernel, by decide +kernel⟩, lw_t8 (List.mem_of_getElem? (i := 104) rfl), lw_t10 (List.mem_of_getElem? (i := 174) rfl), lw_t10 (List.mem_of_getElem? (i := 175) rfl)⟩
theorem lw_p104 : lw_okq (⟨"FerryHallModel", "minutesOf", "(I)I"⟩, 88) := ⟨⟨by decide +kernel, by decide +kernel⟩, lw_t8 (List.mem_of_getElem? (i := 104) rfl), lw_t10 (List.mem_of_getElem? (i := 178) rfl), lw_t10 (List.mem_of_getElem? (i := 179) rfl)⟩
theorem lw_p105 : lw_okq (⟨"FerryHallModel", "prices", "()V"⟩, 88) := ⟨⟨by decide +kernel, by decide +kernel⟩, lw_t8 (List.mem_of_getElem? (i := 104) rfl), lw_t10 (List.mem_of_getElem? (i := 186) rfl), lw_t10 (List.mem_of_getElem? (i := 187) rfl)⟩
theorem lw_p106 : lw_okq (⟨"FerryHallModel", "triesLaws", "()Z"⟩, 88) := ⟨⟨by decide +kernel, by decide +kernel⟩, lw_t8 (List.mem_of_getElem? (i := 104) rfl), lw_t10 (List.mem_of_getElem? (i := 213) rfl), lw_t10 (List.mem_of_getElem? (i := 214) rfl)⟩
theorem lw_p107 : lw_okq (⟨"FerryHallModel", "seeks", "(I)I"⟩, 88) := ⟨⟨by decide +kernel, by decide +kernel⟩, lw_t8 (List.mem_of_getElem? (i := 104) rfl), lw_t10 (List.mem_of_getElem? (i := 217) rfl), lw_t10 (List.mem_of_getElem? (i := 218) rfl)⟩
theorem lw_p108 : lw_okq (⟨"FerryHallModel", "leastHeld", "()I"⟩, 88) := ⟨⟨by decide +kernel, by decide +kernel⟩, lw_t8 (List.mem_of_getElem? (i := 104) rfl), lw_t10 (List.mem_of_getElem? (i := 225) rfl), lw_t10 (List.mem_of_getElem? (i := 226) rfl)⟩
theorem lw_p109 : lw_okq (⟨"FerryHallModel", "leastLoad", "()I"⟩, 88) := ⟨⟨by decide +kernel, by decide +kernel⟩, lw_t8 (List.mem_of_getElem? (i := 104) rfl), lw_t10 (List.mem_of_getElem? (i := 229) rfl), lw_t10 (List.mem_of_getElem? (i := 230) rfl)⟩
theorem lw_p110 : lw_okq (⟨"FerryHallModel", "seeksRounds", "()I"⟩, 88) := ⟨⟨by decide +kernel, by decide +kernel⟩, lw_t8 (List.mem_of_getElem? (i := 104) rfl), lw_t10 (List.mem_of_getElem? (i := 237) rfl), lw_t10 (List.mem_of_getElem? (i := 238) rfl)⟩
theorem lw_p111 : lw_okq (⟨"FerryHallModel", "small", "(I)I"⟩, 88) := ⟨⟨by decide +kernel, by decide +kernel⟩, lw_t8 (List.mem_of_getElem? (i := 104) rfl), lw_t11 (List.mem_of_getElem? (i := 1) rfl), lw_t11 (List.mem_of_getElem? (i := 2) rfl)⟩
def lw_privs_7 : List (MethodName × Nat) := [(⟨"FerryHallModel", "keeps", "(I)I"⟩, 88), (⟨"FerryHallModel", "goesBy", "(III)V"⟩, 88), (⟨"FerryHallModel", "aboard", "(I)I"⟩, 88), (⟨"FerryHallModel", "behind", "(IIII)I"⟩, 88), (⟨"FerryHallModel", "measures", "()V"⟩, 88), (⟨"FerryHallModel", "isGoal", "(I)Z"⟩, 88), (⟨"FerryHallModel", "startsWay", "(I)V"⟩, 88), (⟨"FerryHallModel", "keepsEdge", "(I)V"⟩, 88), (⟨"FerryHallModel", "minutesOf", "(I)I"⟩, 88), (⟨"FerryHallModel", "prices", "()V"⟩, 88), (⟨"FerryHallModel", "triesLaws", "()Z"⟩, 88), (⟨"FerryHallModel", "seeks", "(I)I"⟩, 88), (⟨"FerryHallModel", "leastHeld", "()I"⟩, 88), (⟨"FerryHallModel", "leastLoad", "()I"⟩, 88), (⟨"FerryHallModel", "seeksRounds", "()I"⟩, 88), (⟨"FerryHallModel", "small", "(I)I"⟩, 88)]
theorem lw_r7 : ∀ q ∈ lw_privs_7, lw_okq q := List.forall_mem_cons.mpr ⟨lw_p96, List.forall_mem_cons.mpr ⟨lw_p97, List.forall_mem_cons.mpr ⟨lw_p98, List.forall_mem_cons.mpr ⟨lw_p99, List.forall_mem_cons.mpr ⟨lw_p100, List.forall_mem_cons.mpr ⟨lw_p101, List.forall_mem_cons.mpr ⟨lw_p102, List.forall_mem_cons.mpr ⟨lw_p103, List.forall_mem_cons.mpr ⟨lw_p104, List.forall_mem_cons.mpr ⟨lw_p105, List.forall_mem_cons.mpr ⟨lw_p106, List.forall_mem_cons.mpr ⟨lw_p107, List.forall_mem_cons.mpr ⟨lw_p108, List.forall_mem_cons.mpr ⟨lw_p109, List.forall_mem_cons.mpr ⟨lw_p110, List.forall_mem_cons.mpr ⟨lw_p111, fun _ h => absurd h List.not_mem_nil⟩⟩⟩⟩⟩⟩⟩⟩⟩⟩⟩⟩⟩⟩⟩⟩
theorem lw_p112 : lw_okq (⟨"FerryHallModel", "large", "(I)I"⟩, 88) := ⟨⟨by decide +kernel, by decide +kernel⟩, lw_t8 (List.mem_of_getElem? (i := 104) rfl), lw_t11 (List.mem_of_getElem? (i := 5) rfl), lw_t11 (List.mem_of_getElem? (i := 6) rfl)⟩
theorem lw_p113 : lw_okq (⟨"FerryHallModel", "goesRound", "(II)V"⟩, 88) := ⟨⟨by decide +kernel, by decide +kernel⟩, lw_t8 (List.mem_of_getElem? (i := 104) rfl), lw_t11 (List.mem_of_getElem? (i := 9) rfl), lw_t11 (List.mem_of_getElem? (i := 10) rfl)⟩
theorem lw_p114 : lw_okq (⟨"FerryHallModel", "comes", "(II)V"⟩, 88) := ⟨⟨by decide +kernel, by decide +kernel⟩, lw_t8 (List.mem_of_getElem? (i := 104) rfl), lw_t11 (List.mem_of_getElem? (i := 13) rfl), lw_t11 (List.mem_of_getElem? (i := 14) rfl)⟩
theorem lw_p115 : lw_okq (⟨"FerryHallModel", "goesBoth", "(IIII)V"⟩, 88) := ⟨⟨by decide +kernel, by decide +kernel⟩, lw_t8 (List.mem_of_getElem? (i := 104) rfl), lw_t11 (List.mem_of_getElem? (i := 17) rfl), lw_t11 (List.mem_of_getElem? (i := 18) rfl)⟩
theorem lw_p116 : lw_okq (⟨"FerryHallModel", "judges", "(IIII)I"⟩, 88) := ⟨⟨by decide +kernel, by decide +kernel⟩, lw_t8 (List.mem_of_getElem? (i := 104) rfl), lw_t11 (List.mem_of_getElem? (i := 25) rfl), lw_t11 (List.mem_of_getElem? (i := 26) rfl)⟩
theorem lw_p117 : lw_okq (⟨"FerryHallModel", "bare", "(IIII)I"⟩, 88) := ⟨⟨by decide +kernel, by decide +kernel⟩, lw_t8 (List.mem_of_getElem? (i := 104) rfl), lw_t11 (List.mem_of_getElem? (i := 29) rfl), lw_t11 (List.mem_of_getElem? (i := 30) rfl)⟩
def lw_privs_8 : List (MethodName × Nat) := [(⟨"FerryHallModel", "large", "(I)I"⟩, 88), (⟨"FerryHallModel", "goesRound", "(II)V"⟩, 88), (⟨"FerryHallModel", "comes", "(II)V"⟩, 88), (⟨"FerryHallModel", "goesBoth", "(IIII)V"⟩, 88), (⟨"FerryHallModel", "judges", "(IIII)I"⟩, 88), (⟨"FerryHallModel", "bare", "(IIII)I"⟩, 88)]
theorem lw_r8 : ∀ q ∈ lw_privs_8, lw_okq q := List.forall_mem_cons.mpr ⟨lw_p112, List.forall_mem_cons.mpr ⟨lw_p113, List.forall_mem_cons.mpr ⟨lw_p114, List.forall_mem_cons.mpr ⟨lw_p115, List.forall_mem_cons.mpr ⟨lw_p116, List.forall_mem_cons.mpr ⟨lw_p117, fun _ h => absurd h List.not_mem_nil⟩⟩⟩⟩⟩⟩
def lw_privs : List (MethodName × Nat) := lw_privs_1 ++ (lw_privs_2 ++ (lw_privs_3 ++ (lw_privs_4 ++ (lw_privs_5 ++ (lw_privs_6 ++ (lw_privs_7 ++ (lw_privs_8)))))))
def lw_tbl : List Cond := k2_sels lw_privs ++ tables_1
theorem lw_privs_ok : ∀ q ∈ lw_privs, lw_okq q := by
  show ∀ q ∈ lw_privs_1 ++ (lw_privs_2 ++ (lw_privs_3 ++ (lw_privs_4 ++ (lw_privs_5 ++ (lw_privs_6 ++ (lw_privs_7 ++ (lw_privs_8))))))), lw_okq q
  exact List.forall_mem_append.mpr ⟨lw_r1, List.forall_mem_append.mpr ⟨lw_r2, List.forall_mem_append.mpr ⟨lw_r3, List.forall_mem_append.mpr ⟨lw_r4, List.forall_mem_append.mpr ⟨lw_r5, List.forall_mem_append.mpr ⟨lw_r6, List.forall_mem_append.mpr ⟨lw_r7, lw_r8⟩⟩⟩⟩⟩⟩⟩
-- ===== ONE list of words for every method: the tables' words that hold all through a run =====
def lw_all : List Cond := lw_tbl.filter goodWord
/-- a word of the tables by its place: claim/WORDS.tsv -/
theorem lw_w {w : Cond} (i : Nat) (h : lw_tbl[i]? = some w) (g : goodWord w = true) : w ∈ lw_all := List.mem_filter.mpr ⟨List.mem_of_getElem? h, g⟩
theorem lw_all_tbl {w : Cond} (h : w ∈ lw_all) : w ∈ lw_tbl := (List.mem_filter.mp h).1
theorem lw_self : GoodIn lw_all lw_all := fun w h => ⟨h, good_of_word (List.mem_filter.mp h).2⟩
/-- a class's field words, by their places -/
theorem lw_in (ws : List Cond) (ps : List Nat) (hp : ws = ps.filterMap (fun i => lw_tbl[i]?)) (hg : ws.all goodWord = true) : ∀ w ∈ ws, w ∈ lw_all := by
  intro w h
  have h1 := List.all_eq_true.mp hg w h
  rw [hp] at h
  obtain ⟨i, -, hi⟩ := List.mem_filterMap.mp h
  exact lw_w i hi h1
/-- the words of a contract for the method y with code b, L locals, answer r -/
abbrev ws_ (y : MethodName) (b : ByteArray) (L : Nat) (r : Option FieldType) : List Cond := Cond.code y b L r :: lw_all
theorem lw_meth {y : MethodName} {b : ByteArray} {L : Nat} {r : Option FieldType} (h : Cond.code y b L r ∈ lw_all) : GoodIn lw_all (ws_ y b L r) := by
  intro w hw
  rcases List.mem_cons.mp hw with e | e
  · rw [e]
    exact lw_self _ h
  · exact lw_self _ e
theorem lw_app {a c : List Cond} (ha : ∀ w ∈ a, w ∈ lw_all) (hc : GoodIn lw_all c) : GoodIn lw_all (a ++ c) := by
  intro w hw
  rcases List.mem_append.mp hw with e | e
  · exact lw_self w (ha w e)
  · exact hc w e
/-- what a call through an object asks: cwV n hts (lw_V ..) -/
theorem lw_V {own : String} {idx : Nat} {C : String} {y : MethodName} {b : ByteArray} {L : Nat} {r : Option FieldType} (h1 : Cond.methodLink own idx y ∈ lw_all) (h2 : Cond.instanceMethod y ∈ lw_all) (h3 : Cond.selects C y y ∈ lw_all) (h4 : Cond.initialized C ∈ lw_all) (h5 : Cond.code y b L r ∈ lw_all) : GoodIn lw_all (wsV own idx C y (ws_ y b L r)) := by
  refine lw_app ?_ (lw_meth h5)
  intro w hw
  simp only [List.mem_cons, List.not_mem_nil, or_false] at hw
  rcases hw with e | e | e | e
  · rw [e]; exact h1
  · rw [e]; exact h2
  · rw [e]; exact h3
  · rw [e]; exact h4
/-- what a static call asks: va_cwS n hts (lw_S ..) -/
theorem lw_S {own : String} {idx : Nat} {y : MethodName} {b : ByteArray} {L : Nat} {r : Option FieldType} (h1 : Cond.methodLink own idx y ∈ lw_all) (h2 : Cond.static y ∈ lw_all) (h3 : Cond.initialized y.cls ∈ lw_all) (h4 : Cond.code y b L r ∈ lw_all) : GoodIn lw_all (va_wsS own idx y (ws_ y b L r)) := by
  refine lw_app ?_ (lw_meth h4)
  intro w hw
  simp only [List.mem_cons, List.not_mem_nil, or_false] at hw
  rcases hw with e | e | e
  · rw [e]; exact h1
  · rw [e]; exact h2
  · rw [e]; exact h3
/-- the words of a contract for a method WITH HANDLERS (hh: its table) -/
abbrev wsW_ (y : MethodName) (b : ByteArray) (L : Nat) (r : Option FieldType) (hh : List (Nat × Nat × Nat × Nat)) : List Cond := Cond.codeWith y b L r hh :: lw_all
theorem lw_methW {y : MethodName} {b : ByteArray} {L : Nat} {r : Option FieldType} {hh : List (Nat × Nat × Nat × Nat)} (h : Cond.codeWith y b L r hh ∈ lw_all) : GoodIn lw_all (wsW_ y b L r hh) := by
  intro w hw
  rcases List.mem_cons.mp hw with e | e
  · rw [e]
    exact lw_self _ h
  · exact lw_self _ e
/-- any list of words by their places (lw_in), good -/
theorem lw_good {ws : List Cond} (h : ∀ w ∈ ws, w ∈ lw_all) : GoodIn lw_all ws := fun w hw => lw_self w (h w hw)
/-- what a call of a method with handlers asks: vx_cwVW n hts (lw_VW ..), vx_cwSW n hts (lw_SW ..) -/
theorem lw_VW {own : String} {idx : Nat} {C : String} {y : MethodName} {b : ByteArray} {L : Nat} {r : Option FieldType} {hh : List (Nat × Nat × Nat × Nat)} (h1 : Cond.methodLink own idx y ∈ lw_all) (h2 : Cond.instanceMethod y ∈ lw_all) (h3 : Cond.selects C y y ∈ lw_all) (h4 : Cond.initialized C ∈ lw_all) (h5 : Cond.codeWith y b L r hh ∈ lw_all) : GoodIn lw_all (wsV own idx C y (wsW_ y b L r hh)) := by
  refine lw_app ?_ (lw_methW h5)
  intro w hw
  simp only [List.mem_cons, List.not_mem_nil, or_false] at hw
  rcases hw with e | e | e | e
  · rw [e]; exact h1
  · rw [e]; exact h2
  · rw [e]; exact h3
  · rw [e]; exact h4
theorem lw_SW {own : String} {idx : Nat} {y : MethodName} {b : ByteArray} {L : Nat} {r : Option FieldType} {hh : List (Nat × Nat × Nat × Nat)} (h1 : Cond.methodLink own idx y ∈ lw_all) (h2 : Cond.static y ∈ lw_all) (h3 : Cond.initialized y.cls ∈ lw_all) (h4 : Cond.codeWith y b L r hh ∈ lw_all) : GoodIn lw_all (va_wsS own idx y (wsW_ y b L r hh)) := by
  refine lw_app ?_ (lw_methW h4)
  intro w hw
  simp only [List.mem_cons, List.not_mem_nil, or_false] at hw
  rcases hw with e | e | e
  · rw [e]; exact h1
  · rw [e]; exact h2
  · rw [e]; exact h3
/-- a word by its place in its run of the tables -/
theorem lw_at {r : List Cond} (hr : ∀ w ∈ r, w ∈ lw_tbl) {w : Cond} (i : Nat) (h : r[i]? = some w) : w ∈ lw_tbl := hr w (List.mem_of_getElem? h)
theorem lw_g {w : Cond} (h : w ∈ lw_tbl) (g : goodWord w = true) : w ∈ lw_all := List.mem_filter.mpr ⟨h, g⟩
theorem lw_ms : ∀ w ∈ k2_sels lw_privs, w ∈ lw_tbl := fun w h => show w ∈ k2_sels lw_privs ++ tables_1 from List.mem_append_left _ h
theorem lw_m1 : ∀ w ∈ tables_1_1, w ∈ lw_tbl := fun w h => show w ∈ k2_sels lw_privs ++ tables_1 from List.mem_append_right (k2_sels lw_privs) (show w ∈ tables_1 from List.mem_append_left _ h)
theorem lw_m2 : ∀ w ∈ tables_1_2, w ∈ lw_tbl := fun w h => show w ∈ k2_sels lw_privs ++ tables_1 from List.mem_append_right (k2_sels lw_privs) (show w ∈ tables_1 from List.mem_append_right _ (List.mem_append_left _ h))
theorem lw_m3 : ∀ w ∈ tables_1_3, w ∈ lw_tbl := fun w h => show w ∈ k2_sels lw_privs ++ tables_1 from List.mem_append_right (k2_sels lw_privs) (show w ∈ tables_1 from List.mem_append_right _ (List.mem_append_right _ (List.mem_append_left _ h)))
theorem lw_m4 : ∀ w ∈ tables_1_4, w ∈ lw_tbl := fun w h => show w ∈ k2_sels lw_privs ++ tables_1 from List.mem_append_right (k2_sels lw_privs) (show w ∈ tables_1 from List.mem_append_right _ (List.mem_append_right _ (List.mem_append_right _ (List.mem_append_left _ h))))
theorem lw_m5 : ∀ w ∈ tables_1_5, w ∈ lw_tbl := fun w h => show w ∈ k2_sels lw_privs ++ tables_1 from List.mem_append_right (k2_sels lw_privs) (show w ∈ tables_1 from List.mem_append_right _ (List.mem_append_right _ (List.mem_append_right _ (List.mem_append_right _ (List.mem_append_left _ h)))))
theorem lw_m6 : ∀ w ∈ tables_1_6, w ∈ lw_tbl := fun w h => show w ∈ k2_sels lw_privs ++ tables_1 from List.mem_append_right (k2_sels lw_privs) (show w ∈ tables_1 from List.mem_append_right _ (List.mem_append_right _ (List.mem_append_right _ (List.mem_append_right _ (List.mem_append_right _ (List.mem_append_left _ h))))))
theorem lw_m7 : ∀ w ∈ tables_1_7, w ∈ lw_tbl := fun w h => show w ∈ k2_sels lw_privs ++ tables_1 from List.mem_append_right (k2_sels lw_privs) (show w ∈ tables_1 from List.mem_append_right _ (List.mem_append_right _ (List.mem_append_right _ (List.mem_append_right _ (List.mem_append_right _ (List.mem_append_right _ (List.mem_append_left _ h)))))))
theorem lw_m8 : ∀ w ∈ tables_1_8, w ∈ lw_tbl := fun w h => show w ∈ k2_sels lw_privs ++ tables_1 from List.mem_append_right (k2_sels lw_privs) (show w ∈ tables_1 from List.mem_append_right _ (List.mem_append_right _ (List.mem_append_right _ (List.mem_append_right _ (List.mem_append_right _ (List.mem_append_right _ (List.mem_append_right _ (List.mem_append_left _ h))))))))
theorem lw_m9 : ∀ w ∈ tables_1_9, w ∈ lw_tbl := fun w h => show w ∈ k2_sels lw_privs ++ tables_1 from List.mem_append_right (k2_sels lw_privs) (show w ∈ tables_1 from List.mem_append_right _ (List.mem_append_right _ (List.mem_append_right _ (List.mem_append_right _ (List.mem_append_right _ (List.mem_append_right _ (List.mem_append_right _ (List.mem_append_right _ (List.mem_append_left _ h)))))))))
theorem lw_m10 : ∀ w ∈ tables_1_10, w ∈ lw_tbl := fun w h => show w ∈ k2_sels lw_privs ++ tables_1 from List.mem_append_right (k2_sels lw_privs) (show w ∈ tables_1 from List.mem_append_right _ (List.mem_append_right _ (List.mem_append_right _ (List.mem_append_right _ (List.mem_append_right _ (List.mem_append_right _ (List.mem_append_right _ (List.mem_append_right _ (List.mem_append_right _ (List.mem_append_left _ h))))))))))
theorem lw_m11 : ∀ w ∈ tables_1_11, w ∈ lw_tbl := fun w h => show w ∈ k2_sels lw_privs ++ tables_1 from List.mem_append_right (k2_sels lw_privs) (show w ∈ tables_1 from List.mem_append_right _ (List.mem_append_right _ (List.mem_append_right _ (List.mem_append_right _ (List.mem_append_right _ (List.mem_append_right _ (List.mem_append_right _ (List.mem_append_right _ (List.mem_append_right _ (List.mem_append_right _ h))))))))))
theorem qs0 : (Cond.selects "FerryHall" ⟨"FerryHall", "begin", "()V"⟩ ⟨"FerryHall", "begin", "()V"⟩) ∈ lw_all := lw_g (lw_at lw_ms 0 rfl) rfl
theorem qs1 : (Cond.selects "FerryHall" ⟨"FerryHall", "map", "()LFerryHall$Map;"⟩ ⟨"FerryHall", "map", "()LFerryHall$Map;"⟩) ∈ lw_all := lw_g (lw_at lw_ms 1 rfl) rfl
theorem qs2 : (Cond.selects "FerryHall$Map" ⟨"FerryHall$Map", "add", "(II)I"⟩ ⟨"FerryHall$Map", "add", "(II)I"⟩) ∈ lw_all := lw_g (lw_at lw_ms 2 rfl) rfl
theorem qs3 : (Cond.selects "FerryHall$Map" ⟨"FerryHall$Map", "slotOf", "(I)I"⟩ ⟨"FerryHall$Map", "slotOf", "(I)I"⟩) ∈ lw_all := lw_g (lw_at lw_ms 3 rfl) rfl
theorem qs4 : (Cond.selects "FerryHall$Map" ⟨"FerryHall$Map", "go", "(ILFerryHall$Place;)V"⟩ ⟨"FerryHall$Map", "go", "(ILFerryHall$Place;)V"⟩) ∈ lw_all := lw_g (lw_at lw_ms 4 rfl) rfl
theorem qs5 : (Cond.selects "FerryHall$Map" ⟨"FerryHall$Map", "cross", "(ILFerryHall$Place;III)V"⟩ ⟨"FerryHall$Map", "cross", "(ILFerryHall$Place;III)V"⟩) ∈ lw_all := lw_g (lw_at lw_ms 5 rfl) rfl
theorem qs6 : (Cond.selects "FerryHall$Judge" ⟨"FerryHall$Judge", "holds", "(I)I"⟩ ⟨"FerryHall$Judge", "holds", "(I)I"⟩) ∈ lw_all := lw_g (lw_at lw_ms 6 rfl) rfl
theorem qs7 : (Cond.selects "FerryHall$Judge" ⟨"FerryHall$Judge", "load", "(I)I"⟩ ⟨"FerryHall$Judge", "load", "(I)I"⟩) ∈ lw_all := lw_g (lw_at lw_ms 7 rfl) rfl
theorem qs8 : (Cond.selects "FerryHall$Map" ⟨"FerryHall$Map", "turn", "()V"⟩ ⟨"FerryHall$Map", "turn", "()V"⟩) ∈ lw_all := lw_g (lw_at lw_ms 8 rfl) rfl
theorem qs9 : (Cond.selects "FerryHall$Map" ⟨"FerryHall$Map", "back", "(Z[I)V"⟩ ⟨"FerryHall$Map", "back", "(Z[I)V"⟩) ∈ lw_all := lw_g (lw_at lw_ms 9 rfl) rfl
theorem qs10 : (Cond.selects "FerryHall$Map" ⟨"FerryHall$Map", "step", "(IZ)I"⟩ ⟨"FerryHall$Map", "step", "(IZ)I"⟩) ∈ lw_all := lw_g (lw_at lw_ms 10 rfl) rfl
theorem qs11 : (Cond.selects "FerryHall" ⟨"FerryHall", "keep", "(LFerryHall$Map;Z)V"⟩ ⟨"FerryHall", "keep", "(LFerryHall$Map;Z)V"⟩) ∈ lw_all := lw_g (lw_at lw_ms 11 rfl) rfl
theorem qs12 : (Cond.selects "java/util/ArrayList" ⟨"java/util/ArrayList", "add", "(Ljava/lang/Object;[Ljava/lang/Object;I)V"⟩ ⟨"java/util/ArrayList", "add", "(Ljava/lang/Object;[Ljava/lang/Object;I)V"⟩) ∈ lw_all := lw_g (lw_at lw_ms 12 rfl) rfl
theorem qs13 : (Cond.selects "java/util/ArrayList" ⟨"java/util/ArrayList", "grow", "()[Ljava/lang/Object;"⟩ ⟨"java/util/ArrayList", "grow", "()[Ljava/lang/Object;"⟩) ∈ lw_all := lw_g (lw_at lw_ms 13 rfl) rfl
theorem qs14 : (Cond.selects "java/util/ArrayList" ⟨"java/util/ArrayList", "grow", "(I)[Ljava/lang/Object;"⟩ ⟨"java/util/ArrayList", "grow", "(I)[Ljava/lang/Object;"⟩) ∈ lw_all := lw_g (lw_at lw_ms 14 rfl) rfl
theorem qs15 : (Cond.selects "FerryHall$Rounds" ⟨"FerryHall$Rounds", "single", "(II)V"⟩ ⟨"FerryHall$Rounds", "single", "(II)V"⟩) ∈ lw_all := lw_g (lw_at lw_ms 15 rfl) rfl
theorem qs16 : (Cond.selects "FerryHall$Rounds" ⟨"FerryHall$Rounds", "come", "()V"⟩ ⟨"FerryHall$Rounds", "come", "()V"⟩) ∈ lw_all := lw_g (lw_at lw_ms 16 rfl) rfl
theorem qs17 : (Cond.selects "FerryHall$Rounds" ⟨"FerryHall$Rounds", "pair", "(I)V"⟩ ⟨"FerryHall$Rounds", "pair", "(I)V"⟩) ∈ lw_all := lw_g (lw_at lw_ms 17 rfl) rfl
theorem qs18 : (Cond.selects "FerryHall$Rounds" ⟨"FerryHall$Rounds", "both", "(III)Z"⟩ ⟨"FerryHall$Rounds", "both", "(III)Z"⟩) ∈ lw_all := lw_g (lw_at lw_ms 18 rfl) rfl
theorem qs19 : (Cond.selects "java/util/ArrayList" ⟨"java/util/ArrayList", "fastRemove", "([Ljava/lang/Object;I)V"⟩ ⟨"java/util/ArrayList", "fastRemove", "([Ljava/lang/Object;I)V"⟩) ∈ lw_all := lw_g (lw_at lw_ms 19 rfl) rfl
theorem qs20 : (Cond.selects "java/lang/Throwable" ⟨"java/lang/Throwable", "fillInStackTrace", "(I)Ljava/lang/Throwable;"⟩ ⟨"java/lang/Throwable", "fillInStackTrace", "(I)Ljava/lang/Throwable;"⟩) ∈ lw_all := lw_g (lw_at lw_ms 20 rfl) rfl
theorem qs21 : (Cond.selects "FerryHall$Reader" ⟨"FerryHall$Reader", "next", "()V"⟩ ⟨"FerryHall$Reader", "next", "()V"⟩) ∈ lw_all := lw_g (lw_at lw_ms 21 rfl) rfl
theorem qs22 : (Cond.selects "FerryHall$Reader" ⟨"FerryHall$Reader", "here", "()I"⟩ ⟨"FerryHall$Reader", "here", "()I"⟩) ∈ lw_all := lw_g (lw_at lw_ms 22 rfl) rfl
theorem qs23 : (Cond.selects "FerryHall$Reader" ⟨"FerryHall$Reader", "isLetter", "()Z"⟩ ⟨"FerryHall$Reader", "isLetter", "()Z"⟩) ∈ lw_all := lw_g (lw_at lw_ms 23 rfl) rfl
theorem qs24 : (Cond.selects "FerryHall$Reader" ⟨"FerryHall$Reader", "isDigit", "()Z"⟩ ⟨"FerryHall$Reader", "isDigit", "()Z"⟩) ∈ lw_all := lw_g (lw_at lw_ms 24 rfl) rfl
theorem qs25 : (Cond.selects "FerryHall$Reader" ⟨"FerryHall$Reader", "is", "(Ljava/lang/String;)Z"⟩ ⟨"FerryHall$Reader", "is", "(Ljava/lang/String;)Z"⟩) ∈ lw_all := lw_g (lw_at lw_ms 25 rfl) rfl
theorem qs26 : (Cond.selects "FerryHall$Reader" ⟨"FerryHall$Reader", "number", "(II)I"⟩ ⟨"FerryHall$Reader", "number", "(II)I"⟩) ∈ lw_all := lw_g (lw_at lw_ms 26 rfl) rfl
theorem qs27 : (Cond.selects "FerryHall$Reader" ⟨"FerryHall$Reader", "want", "(ZI)V"⟩ ⟨"FerryHall$Reader", "want", "(ZI)V"⟩) ∈ lw_all := lw_g (lw_at lw_ms 27 rfl) rfl
theorem qs28 : (Cond.selects "FerryHall$Reader" ⟨"FerryHall$Reader", "need", "(I)V"⟩ ⟨"FerryHall$Reader", "need", "(I)V"⟩) ∈ lw_all := lw_g (lw_at lw_ms 28 rfl) rfl
theorem qs29 : (Cond.selects "FerryHall$Reader" ⟨"FerryHall$Reader", "isSign", "(I)Z"⟩ ⟨"FerryHall$Reader", "isSign", "(I)Z"⟩) ∈ lw_all := lw_g (lw_at lw_ms 29 rfl) rfl
theorem qs30 : (Cond.selects "FerryHall$Reader" ⟨"FerryHall$Reader", "thing", "()V"⟩ ⟨"FerryHall$Reader", "thing", "()V"⟩) ∈ lw_all := lw_g (lw_at lw_ms 30 rfl) rfl
theorem qs31 : (Cond.selects "FerryHall$Reader" ⟨"FerryHall$Reader", "isName", "()Z"⟩ ⟨"FerryHall$Reader", "isName", "()Z"⟩) ∈ lw_all := lw_g (lw_at lw_ms 31 rfl) rfl
theorem qs32 : (Cond.selects "FerryHall$Reader" ⟨"FerryHall$Reader", "word", "(Ljava/lang/String;)V"⟩ ⟨"FerryHall$Reader", "word", "(Ljava/lang/String;)V"⟩) ∈ lw_all := lw_g (lw_at lw_ms 32 rfl) rfl
theorem qs33 : (Cond.selects "FerryHall$Reader" ⟨"FerryHall$Reader", "boat", "()V"⟩ ⟨"FerryHall$Reader", "boat", "()V"⟩) ∈ lw_all := lw_g (lw_at lw_ms 33 rfl) rfl
theorem qs34 : (Cond.selects "FerryHall$Reader" ⟨"FerryHall$Reader", "shore", "()I"⟩ ⟨"FerryHall$Reader", "shore", "()I"⟩) ∈ lw_all := lw_g (lw_at lw_ms 34 rfl) rfl
theorem qs35 : (Cond.selects "FerryHall$Reader" ⟨"FerryHall$Reader", "water", "(Z)V"⟩ ⟨"FerryHall$Reader", "water", "(Z)V"⟩) ∈ lw_all := lw_g (lw_at lw_ms 35 rfl) rfl
theorem qs36 : (Cond.selects "FerryHall$Reader" ⟨"FerryHall$Reader", "lamp", "()V"⟩ ⟨"FerryHall$Reader", "lamp", "()V"⟩) ∈ lw_all := lw_g (lw_at lw_ms 36 rfl) rfl
theorem qs37 : (Cond.selects "FerryHall$Reader" ⟨"FerryHall$Reader", "never", "()V"⟩ ⟨"FerryHall$Reader", "never", "()V"⟩) ∈ lw_all := lw_g (lw_at lw_ms 37 rfl) rfl
theorem qs38 : (Cond.selects "FerryHall$Reader" ⟨"FerryHall$Reader", "expression", "(I)LFerryHall$Ex;"⟩ ⟨"FerryHall$Reader", "expression", "(I)LFerryHall$Ex;"⟩) ∈ lw_all := lw_g (lw_at lw_ms 38 rfl) rfl
theorem qs39 : (Cond.selects "FerryHall$Reader" ⟨"FerryHall$Reader", "and", "(I)LFerryHall$Ex;"⟩ ⟨"FerryHall$Reader", "and", "(I)LFerryHall$Ex;"⟩) ∈ lw_all := lw_g (lw_at lw_ms 39 rfl) rfl
theorem qs40 : (Cond.selects "FerryHall$Reader" ⟨"FerryHall$Reader", "not", "(I)LFerryHall$Ex;"⟩ ⟨"FerryHall$Reader", "not", "(I)LFerryHall$Ex;"⟩) ∈ lw_all := lw_g (lw_at lw_ms 40 rfl) rfl
theorem qs41 : (Cond.selects "FerryHall$Reader" ⟨"FerryHall$Reader", "sum", "(I)LFerryHall$Ex;"⟩ ⟨"FerryHall$Reader", "sum", "(I)LFerryHall$Ex;"⟩) ∈ lw_all := lw_g (lw_at lw_ms 41 rfl) rfl
theorem qs42 : (Cond.selects "FerryHall$Reader" ⟨"FerryHall$Reader", "product", "(I)LFerryHall$Ex;"⟩ ⟨"FerryHall$Reader", "product", "(I)LFerryHall$Ex;"⟩) ∈ lw_all := lw_g (lw_at lw_ms 42 rfl) rfl
theorem qs43 : (Cond.selects "FerryHall$Reader" ⟨"FerryHall$Reader", "part", "(I)LFerryHall$Ex;"⟩ ⟨"FerryHall$Reader", "part", "(I)LFerryHall$Ex;"⟩) ∈ lw_all := lw_g (lw_at lw_ms 43 rfl) rfl
theorem qs44 : (Cond.selects "FerryHall$Reader" ⟨"FerryHall$Reader", "valueNow", "()I"⟩ ⟨"FerryHall$Reader", "valueNow", "()I"⟩) ∈ lw_all := lw_g (lw_at lw_ms 44 rfl) rfl
theorem qs45 : (Cond.selects "FerryHall$Reader" ⟨"FerryHall$Reader", "sign", "()C"⟩ ⟨"FerryHall$Reader", "sign", "()C"⟩) ∈ lw_all := lw_g (lw_at lw_ms 45 rfl) rfl
theorem qs46 : (Cond.selects "FerryHall" ⟨"FerryHall", "aThing", "(I)V"⟩ ⟨"FerryHall", "aThing", "(I)V"⟩) ∈ lw_all := lw_g (lw_at lw_ms 46 rfl) rfl
theorem qs47 : (Cond.selects "FerryHall" ⟨"FerryHall", "behind", "(I)LFerryHall$Place;"⟩ ⟨"FerryHall", "behind", "(I)LFerryHall$Place;"⟩) ∈ lw_all := lw_g (lw_at lw_ms 47 rfl) rfl
theorem qs48 : (Cond.selects "FerryHall" ⟨"FerryHall", "tellLaws", "()V"⟩ ⟨"FerryHall", "tellLaws", "()V"⟩) ∈ lw_all := lw_g (lw_at lw_ms 48 rfl) rfl
theorem qs49 : (Cond.selects "FerryHall" ⟨"FerryHall", "holdSize", "()I"⟩ ⟨"FerryHall", "holdSize", "()I"⟩) ∈ lw_all := lw_g (lw_at lw_ms 49 rfl) rfl
theorem qs50 : (Cond.selects "FerryHall" ⟨"FerryHall", "tries", "(II)I"⟩ ⟨"FerryHall", "tries", "(II)I"⟩) ∈ lw_all := lw_g (lw_at lw_ms 50 rfl) rfl
theorem qs51 : (Cond.selects "FerryHall" ⟨"FerryHall", "loadSize", "()I"⟩ ⟨"FerryHall", "loadSize", "()I"⟩) ∈ lw_all := lw_g (lw_at lw_ms 51 rfl) rfl
theorem qs52 : (Cond.selects "FerryHall" ⟨"FerryHall", "areAlike", "(II)Z"⟩ ⟨"FerryHall", "areAlike", "(II)Z"⟩) ∈ lw_all := lw_g (lw_at lw_ms 52 rfl) rfl
theorem qs53 : (Cond.selects "FerryHallModel" ⟨"FerryHallModel", "begins", "()V"⟩ ⟨"FerryHallModel", "begins", "()V"⟩) ∈ lw_all := lw_g (lw_at lw_ms 53 rfl) rfl
theorem qs54 : (Cond.selects "FerryHallModel" ⟨"FerryHallModel", "start", "()I"⟩ ⟨"FerryHallModel", "start", "()I"⟩) ∈ lw_all := lw_g (lw_at lw_ms 54 rfl) rfl
theorem qs55 : (Cond.selects "FerryHallModel" ⟨"FerryHallModel", "lays", "(I)V"⟩ ⟨"FerryHallModel", "lays", "(I)V"⟩) ∈ lw_all := lw_g (lw_at lw_ms 55 rfl) rfl
theorem qs56 : (Cond.selects "FerryHallModel" ⟨"FerryHallModel", "right", "(ZI)Z"⟩ ⟨"FerryHallModel", "right", "(ZI)Z"⟩) ∈ lw_all := lw_g (lw_at lw_ms 56 rfl) rfl
theorem qs57 : (Cond.selects "FerryHallModel" ⟨"FerryHallModel", "goes", "()V"⟩ ⟨"FerryHallModel", "goes", "()V"⟩) ∈ lw_all := lw_g (lw_at lw_ms 57 rfl) rfl
theorem qs58 : (Cond.selects "FerryHallModel" ⟨"FerryHallModel", "byteAt", "(I)I"⟩ ⟨"FerryHallModel", "byteAt", "(I)I"⟩) ∈ lw_all := lw_g (lw_at lw_ms 58 rfl) rfl
theorem qs59 : (Cond.selects "FerryHallModel" ⟨"FerryHallModel", "knownWord", "()I"⟩ ⟨"FerryHallModel", "knownWord", "()I"⟩) ∈ lw_all := lw_g (lw_at lw_ms 59 rfl) rfl
theorem qs60 : (Cond.selects "FerryHallModel" ⟨"FerryHallModel", "number", "(II)I"⟩ ⟨"FerryHallModel", "number", "(II)I"⟩) ∈ lw_all := lw_g (lw_at lw_ms 60 rfl) rfl
theorem qs61 : (Cond.selects "FerryHallModel" ⟨"FerryHallModel", "isGood", "()Z"⟩ ⟨"FerryHallModel", "isGood", "()Z"⟩) ∈ lw_all := lw_g (lw_at lw_ms 61 rfl) rfl
theorem qs62 : (Cond.selects "FerryHallModel" ⟨"FerryHallModel", "wrong", "(I)V"⟩ ⟨"FerryHallModel", "wrong", "(I)V"⟩) ∈ lw_all := lw_g (lw_at lw_ms 62 rfl) rfl
theorem qs63 : (Cond.selects "FerryHallModel" ⟨"FerryHallModel", "isSign", "(I)Z"⟩ ⟨"FerryHallModel", "isSign", "(I)Z"⟩) ∈ lw_all := lw_g (lw_at lw_ms 63 rfl) rfl
theorem qs64 : (Cond.selects "FerryHallModel" ⟨"FerryHallModel", "clause", "()V"⟩ ⟨"FerryHallModel", "clause", "()V"⟩) ∈ lw_all := lw_g (lw_at lw_ms 64 rfl) rfl
theorem qs65 : (Cond.selects "FerryHallModel" ⟨"FerryHallModel", "thing", "()V"⟩ ⟨"FerryHallModel", "thing", "()V"⟩) ∈ lw_all := lw_g (lw_at lw_ms 65 rfl) rfl
theorem qs66 : (Cond.selects "FerryHallModel" ⟨"FerryHallModel", "named", "(I)I"⟩ ⟨"FerryHallModel", "named", "(I)I"⟩) ∈ lw_all := lw_g (lw_at lw_ms 66 rfl) rfl
theorem qs67 : (Cond.selects "FerryHallModel" ⟨"FerryHallModel", "need", "(I)V"⟩ ⟨"FerryHallModel", "need", "(I)V"⟩) ∈ lw_all := lw_g (lw_at lw_ms 67 rfl) rfl
theorem qs68 : (Cond.selects "FerryHallModel" ⟨"FerryHallModel", "boat", "()V"⟩ ⟨"FerryHallModel", "boat", "()V"⟩) ∈ lw_all := lw_g (lw_at lw_ms 68 rfl) rfl
theorem qs69 : (Cond.selects "FerryHallModel" ⟨"FerryHallModel", "shore", "(I)I"⟩ ⟨"FerryHallModel", "shore", "(I)I"⟩) ∈ lw_all := lw_g (lw_at lw_ms 69 rfl) rfl
theorem qs70 : (Cond.selects "FerryHallModel" ⟨"FerryHallModel", "water", "(Z)V"⟩ ⟨"FerryHallModel", "water", "(Z)V"⟩) ∈ lw_all := lw_g (lw_at lw_ms 70 rfl) rfl
theorem qs71 : (Cond.selects "FerryHallModel" ⟨"FerryHallModel", "lamp", "()V"⟩ ⟨"FerryHallModel", "lamp", "()V"⟩) ∈ lw_all := lw_g (lw_at lw_ms 71 rfl) rfl
theorem qs72 : (Cond.selects "FerryHallModel" ⟨"FerryHallModel", "never", "()V"⟩ ⟨"FerryHallModel", "never", "()V"⟩) ∈ lw_all := lw_g (lw_at lw_ms 72 rfl) rfl
theorem qs73 : (Cond.selects "FerryHallModel" ⟨"FerryHallModel", "expression", "()I"⟩ ⟨"FerryHallModel", "expression", "()I"⟩) ∈ lw_all := lw_g (lw_at lw_ms 73 rfl) rfl
theorem qs74 : (Cond.selects "FerryHallModel" ⟨"FerryHallModel", "deeper", "()V"⟩ ⟨"FerryHallModel", "deeper", "()V"⟩) ∈ lw_all := lw_g (lw_at lw_ms 74 rfl) rfl
theorem qs75 : (Cond.selects "FerryHallModel" ⟨"FerryHallModel", "operand", "(Z)V"⟩ ⟨"FerryHallModel", "operand", "(Z)V"⟩) ∈ lw_all := lw_g (lw_at lw_ms 75 rfl) rfl
theorem qs76 : (Cond.selects "FerryHallModel" ⟨"FerryHallModel", "waitsFor", "(I)V"⟩ ⟨"FerryHallModel", "waitsFor", "(I)V"⟩) ∈ lw_all := lw_g (lw_at lw_ms 76 rfl) rfl
theorem qs77 : (Cond.selects "FerryHallModel" ⟨"FerryHallModel", "part", "()V"⟩ ⟨"FerryHallModel", "part", "()V"⟩) ∈ lw_all := lw_g (lw_at lw_ms 77 rfl) rfl
theorem qs78 : (Cond.selects "FerryHallModel" ⟨"FerryHallModel", "puts", "(I)V"⟩ ⟨"FerryHallModel", "puts", "(I)V"⟩) ∈ lw_all := lw_g (lw_at lw_ms 78 rfl) rfl
theorem qs79 : (Cond.selects "FerryHallModel" ⟨"FerryHallModel", "drops", "(I)V"⟩ ⟨"FerryHallModel", "drops", "(I)V"⟩) ∈ lw_all := lw_g (lw_at lw_ms 79 rfl) rfl
theorem qs80 : (Cond.selects "FerryHallModel" ⟨"FerryHallModel", "takes", "()V"⟩ ⟨"FerryHallModel", "takes", "()V"⟩) ∈ lw_all := lw_g (lw_at lw_ms 80 rfl) rfl
theorem qs81 : (Cond.selects "FerryHallModel" ⟨"FerryHallModel", "isGroup", "(II)Z"⟩ ⟨"FerryHallModel", "isGroup", "(II)Z"⟩) ∈ lw_all := lw_g (lw_at lw_ms 81 rfl) rfl
theorem qs82 : (Cond.selects "FerryHallModel" ⟨"FerryHallModel", "all", "()I"⟩ ⟨"FerryHallModel", "all", "()I"⟩) ∈ lw_all := lw_g (lw_at lw_ms 82 rfl) rfl
theorem qs83 : (Cond.selects "FerryHallModel" ⟨"FerryHallModel", "barsOf", "(IIII)I"⟩ ⟨"FerryHallModel", "barsOf", "(IIII)I"⟩) ∈ lw_all := lw_g (lw_at lw_ms 83 rfl) rfl
theorem qs84 : (Cond.selects "FerryHallModel" ⟨"FerryHallModel", "worth", "(IIIII)I"⟩ ⟨"FerryHallModel", "worth", "(IIIII)I"⟩) ∈ lw_all := lw_g (lw_at lw_ms 84 rfl) rfl
theorem qs85 : (Cond.selects "FerryHallModel" ⟨"FerryHallModel", "valueOf", "(IIIII)I"⟩ ⟨"FerryHallModel", "valueOf", "(IIIII)I"⟩) ∈ lw_all := lw_g (lw_at lw_ms 85 rfl) rfl
theorem qs86 : (Cond.selects "FerryHallModel" ⟨"FerryHallModel", "sumOf", "(I[I)I"⟩ ⟨"FerryHallModel", "sumOf", "(I[I)I"⟩) ∈ lw_all := lw_g (lw_at lw_ms 86 rfl) rfl
theorem qs87 : (Cond.selects "FerryHallModel" ⟨"FerryHallModel", "rowers", "(I)I"⟩ ⟨"FerryHallModel", "rowers", "(I)I"⟩) ∈ lw_all := lw_g (lw_at lw_ms 87 rfl) rfl
theorem qs88 : (Cond.selects "FerryHallModel" ⟨"FerryHallModel", "areAlike", "(II)Z"⟩ ⟨"FerryHallModel", "areAlike", "(II)Z"⟩) ∈ lw_all := lw_g (lw_at lw_ms 88 rfl) rfl
theorem qs89 : (Cond.selects "FerryHallModel" ⟨"FerryHallModel", "isWater", "(II)Z"⟩ ⟨"FerryHallModel", "isWater", "(II)Z"⟩) ∈ lw_all := lw_g (lw_at lw_ms 89 rfl) rfl
theorem qs90 : (Cond.selects "FerryHallModel" ⟨"FerryHallModel", "finds", "()Z"⟩ ⟨"FerryHallModel", "finds", "()Z"⟩) ∈ lw_all := lw_g (lw_at lw_ms 90 rfl) rfl
theorem qs91 : (Cond.selects "FerryHallModel" ⟨"FerryHallModel", "explores", "(I)Z"⟩ ⟨"FerryHallModel", "explores", "(I)Z"⟩) ∈ lw_all := lw_g (lw_at lw_ms 91 rfl) rfl
theorem qs92 : (Cond.selects "FerryHallModel" ⟨"FerryHallModel", "sets", "()V"⟩ ⟨"FerryHallModel", "sets", "()V"⟩) ∈ lw_all := lw_g (lw_at lw_ms 92 rfl) rfl
theorem qs93 : (Cond.selects "FerryHallModel" ⟨"FerryHallModel", "numberOf", "(I)I"⟩ ⟨"FerryHallModel", "numberOf", "(I)I"⟩) ∈ lw_all := lw_g (lw_at lw_ms 93 rfl) rfl
theorem qs94 : (Cond.selects "FerryHallModel" ⟨"FerryHallModel", "barsShores", "(IIIZ)I"⟩ ⟨"FerryHallModel", "barsShores", "(IIIZ)I"⟩) ∈ lw_all := lw_g (lw_at lw_ms 94 rfl) rfl
theorem qs95 : (Cond.selects "FerryHallModel" ⟨"FerryHallModel", "setAt", "(II)I"⟩ ⟨"FerryHallModel", "setAt", "(II)I"⟩) ∈ lw_all := lw_g (lw_at lw_ms 95 rfl) rfl
theorem qs96 : (Cond.selects "FerryHallModel" ⟨"FerryHallModel", "keeps", "(I)I"⟩ ⟨"FerryHallModel", "keeps", "(I)I"⟩) ∈ lw_all := lw_g (lw_at lw_ms 96 rfl) rfl
theorem qs97 : (Cond.selects "FerryHallModel" ⟨"FerryHallModel", "goesBy", "(III)V"⟩ ⟨"FerryHallModel", "goesBy", "(III)V"⟩) ∈ lw_all := lw_g (lw_at lw_ms 97 rfl) rfl
theorem qs98 : (Cond.selects "FerryHallModel" ⟨"FerryHallModel", "aboard", "(I)I"⟩ ⟨"FerryHallModel", "aboard", "(I)I"⟩) ∈ lw_all := lw_g (lw_at lw_ms 98 rfl) rfl
theorem qs99 : (Cond.selects "FerryHallModel" ⟨"FerryHallModel", "behind", "(IIII)I"⟩ ⟨"FerryHallModel", "behind", "(IIII)I"⟩) ∈ lw_all := lw_g (lw_at lw_ms 99 rfl) rfl
theorem qs100 : (Cond.selects "FerryHallModel" ⟨"FerryHallModel", "measures", "()V"⟩ ⟨"FerryHallModel", "measures", "()V"⟩) ∈ lw_all := lw_g (lw_at lw_ms 100 rfl) rfl
theorem qs101 : (Cond.selects "FerryHallModel" ⟨"FerryHallModel", "isGoal", "(I)Z"⟩ ⟨"FerryHallModel", "isGoal", "(I)Z"⟩) ∈ lw_all := lw_g (lw_at lw_ms 101 rfl) rfl
theorem qs102 : (Cond.selects "FerryHallModel" ⟨"FerryHallModel", "startsWay", "(I)V"⟩ ⟨"FerryHallModel", "startsWay", "(I)V"⟩) ∈ lw_all := lw_g (lw_at lw_ms 102 rfl) rfl
theorem qs103 : (Cond.selects "FerryHallModel" ⟨"FerryHallModel", "keepsEdge", "(I)V"⟩ ⟨"FerryHallModel", "keepsEdge", "(I)V"⟩) ∈ lw_all := lw_g (lw_at lw_ms 103 rfl) rfl
theorem qs104 : (Cond.selects "FerryHallModel" ⟨"FerryHallModel", "minutesOf", "(I)I"⟩ ⟨"FerryHallModel", "minutesOf", "(I)I"⟩) ∈ lw_all := lw_g (lw_at lw_ms 104 rfl) rfl
theorem qs105 : (Cond.selects "FerryHallModel" ⟨"FerryHallModel", "prices", "()V"⟩ ⟨"FerryHallModel", "prices", "()V"⟩) ∈ lw_all := lw_g (lw_at lw_ms 105 rfl) rfl
theorem qs106 : (Cond.selects "FerryHallModel" ⟨"FerryHallModel", "triesLaws", "()Z"⟩ ⟨"FerryHallModel", "triesLaws", "()Z"⟩) ∈ lw_all := lw_g (lw_at lw_ms 106 rfl) rfl
theorem qs107 : (Cond.selects "FerryHallModel" ⟨"FerryHallModel", "seeks", "(I)I"⟩ ⟨"FerryHallModel", "seeks", "(I)I"⟩) ∈ lw_all := lw_g (lw_at lw_ms 107 rfl) rfl
theorem qs108 : (Cond.selects "FerryHallModel" ⟨"FerryHallModel", "leastHeld", "()I"⟩ ⟨"FerryHallModel", "leastHeld", "()I"⟩) ∈ lw_all := lw_g (lw_at lw_ms 108 rfl) rfl
theorem qs109 : (Cond.selects "FerryHallModel" ⟨"FerryHallModel", "leastLoad", "()I"⟩ ⟨"FerryHallModel", "leastLoad", "()I"⟩) ∈ lw_all := lw_g (lw_at lw_ms 109 rfl) rfl
theorem qs110 : (Cond.selects "FerryHallModel" ⟨"FerryHallModel", "seeksRounds", "()I"⟩ ⟨"FerryHallModel", "seeksRounds", "()I"⟩) ∈ lw_all := lw_g (lw_at lw_ms 110 rfl) rfl
theorem qs111 : (Cond.selects "FerryHallModel" ⟨"FerryHallModel", "small", "(I)I"⟩ ⟨"FerryHallModel", "small", "(I)I"⟩) ∈ lw_all := lw_g (lw_at lw_ms 111 rfl) rfl
theorem qs112 : (Cond.selects "FerryHallModel" ⟨"FerryHallModel", "large", "(I)I"⟩ ⟨"FerryHallModel", "large", "(I)I"⟩) ∈ lw_all := lw_g (lw_at lw_ms 112 rfl) rfl
theorem qs113 : (Cond.selects "FerryHallModel" ⟨"FerryHallModel", "goesRound", "(II)V"⟩ ⟨"FerryHallModel", "goesRound", "(II)V"⟩) ∈ lw_all := lw_g (lw_at lw_ms 113 rfl) rfl
theorem qs114 : (Cond.selects "FerryHallModel" ⟨"FerryHallModel", "comes", "(II)V"⟩ ⟨"FerryHallModel", "comes", "(II)V"⟩) ∈ lw_all := lw_g (lw_at lw_ms 114 rfl) rfl
theorem qs115 : (Cond.selects "FerryHallModel" ⟨"FerryHallModel", "goesBoth", "(IIII)V"⟩ ⟨"FerryHallModel", "goesBoth", "(IIII)V"⟩) ∈ lw_all := lw_g (lw_at lw_ms 115 rfl) rfl
theorem qs116 : (Cond.selects "FerryHallModel" ⟨"FerryHallModel", "judges", "(IIII)I"⟩ ⟨"FerryHallModel", "judges", "(IIII)I"⟩) ∈ lw_all := lw_g (lw_at lw_ms 116 rfl) rfl
theorem qs117 : (Cond.selects "FerryHallModel" ⟨"FerryHallModel", "bare", "(IIII)I"⟩ ⟨"FerryHallModel", "bare", "(IIII)I"⟩) ∈ lw_all := lw_g (lw_at lw_ms 117 rfl) rfl
-- ===== end of PART A; then your names; then what follows =====
