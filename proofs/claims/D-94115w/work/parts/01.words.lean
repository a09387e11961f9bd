-- ===== PART A: goes FIRST, ahead of the names: the tables' words, and 'selects' of the private methods out of them =====
/-- a private method of a class that the tables say can be made, by its rows of tables_1 -/
def lw_okq (q : MethodName × Nat) : Prop := (q.1.cls ≠ "java/lang/invoke/MethodHandle" ∧ q.1.cls ≠ "java/lang/invoke/VarHandle") ∧ Cond.instantiable q.1.cls q.2 ∈ tables_1 ∧ Cond.privateMethod q.1 ∈ tables_1 ∧ Cond.instanceMethod q.1 ∈ tables_1
set_option maxRecDepth 100000
theorem lw_t1 {w : Cond} (h : w ∈ tables_1_1) : w ∈ tables_1 := List.mem_append_left _ h
theorem lw_t2 {w : Cond} (h : w ∈ tables_1_2) : w ∈ tables_1 := List.mem_append_right _ (List.mem_append_left _ h)
theorem lw_t3 {w : Cond} (h : w ∈ tables_1_3) : w ∈ tables_1 := List.mem_append_right _ (List.mem_append_right _ (List.mem_append_left _ h))
theorem lw_t4 {w : Cond} (h : w ∈ tables_1_4) : w ∈ tables_1 := List.mem_append_right _ (List.mem_append_right _ (List.mem_append_right _ (List.mem_append_left _ h)))
theorem lw_t5 {w : Cond} (h : w ∈ tables_1_5) : w ∈ tables_1 := List.mem_append_right _ (List.mem_append_right _ (List.mem_append_right _ (List.mem_append_right _ (List.mem_append_left _ h))))
theorem lw_t6 {w : Cond} (h : w ∈ tables_1_6) : w ∈ tables_1 := List.mem_append_right _ (List.mem_append_right _ (List.mem_append_right _ (List.mem_append_right _ (List.mem_append_right _ (List.mem_append_left _ h)))))
theorem lw_t7 {w : Cond} (h : w ∈ tables_1_7) : w ∈ tables_1 := List.mem_append_right _ (List.mem_append_right _ (List.mem_append_right _ (List.mem_append_right _ (List.mem_append_right _ (List.mem_append_right _ (List.mem_append_left _ h))))))
theorem lw_t8 {w : Cond} (h : w ∈ tables_1_8) : w ∈ tables_1 := List.mem_append_right _ (List.mem_append_right _ (List.mem_append_right _ (List.mem_append_right _ (List.mem_append_right _ (List.mem_append_right _ (List.mem_append_right _ (List.mem_append_left _ h)))))))
theorem lw_t9 {w : Cond} (h : w ∈ tables_1_9) : w ∈ tables_1 := List.mem_append_right _ (List.mem_append_right _ (List.mem_append_right _ (List.mem_append_right _ (List.mem_append_right _ (List.mem_append_right _ (List.mem_append_right _ (List.mem_append_right _ (List.mem_append_left _ h))))))))
theorem lw_t10 {w : Cond} (h : w ∈ tables_1_10) : w ∈ tables_1 := List.mem_append_right _ (List.mem_append_right _ (List.mem_append_right _ (List.mem_append_right _ (List.mem_append_right _ (List.mem_append_right _ (List.mem_append_right _ (List.mem_append_right _ (List.mem_append_right _ (List.mem_append_left _ h)))))))))
theorem lw_t11 {w : Cond} (h : w ∈ tables_1_11) : w ∈ tables_1 := List.mem_append_right _ (List.mem_append_right _ (List.mem_append_right _ (List.mem_append_right _ (List.mem_append_right _ (List.mem_append_right _ (List.mem_append_right _ (List.mem_append_right _ (List.mem_append_right _ (List.mem_append_right _ h)))))))))
theorem lw_p0 : lw_okq (⟨"StarEye", "bytes", "(I)V"⟩, 13) := ⟨⟨by decide +kernel, by decide +kernel⟩, lw_t1 (List.mem_of_getElem? (i := 48) rfl), lw_t1 (List.mem_of_getElem? (i := 218) rfl), lw_t1 (List.mem_of_getElem? (i := 219) rfl)⟩
theorem lw_p1 : lw_okq (⟨"StarEye", "isRead", "(LStarEye$Text;)Z"⟩, 13) := ⟨⟨by decide +kernel, by decide +kernel⟩, lw_t1 (List.mem_of_getElem? (i := 48) rfl), lw_t2 (List.mem_of_getElem? (i := 53) rfl), lw_t2 (List.mem_of_getElem? (i := 54) rfl)⟩
theorem lw_p2 : lw_okq (⟨"java/lang/Throwable", "fillInStackTrace", "(I)Ljava/lang/Throwable;"⟩, 6) := ⟨⟨by decide +kernel, by decide +kernel⟩, lw_t2 (List.mem_of_getElem? (i := 130) rfl), lw_t2 (List.mem_of_getElem? (i := 128) rfl), lw_t2 (List.mem_of_getElem? (i := 129) rfl)⟩
theorem lw_p3 : lw_okq (⟨"StarEye$BookReader", "once", "(I)V"⟩, 10) := ⟨⟨by decide +kernel, by decide +kernel⟩, lw_t1 (List.mem_of_getElem? (i := 230) rfl), lw_t3 (List.mem_of_getElem? (i := 47) rfl), lw_t3 (List.mem_of_getElem? (i := 48) rfl)⟩
theorem lw_p4 : lw_okq (⟨"StarEye$BookReader", "star", "()V"⟩, 10) := ⟨⟨by decide +kernel, by decide +kernel⟩, lw_t1 (List.mem_of_getElem? (i := 230) rfl), lw_t3 (List.mem_of_getElem? (i := 103) rfl), lw_t3 (List.mem_of_getElem? (i := 104) rfl)⟩
theorem lw_p5 : lw_okq (⟨"java/util/ArrayList", "add", "(Ljava/lang/Object;[Ljava/lang/Object;I)V"⟩, 3) := ⟨⟨by decide +kernel, by decide +kernel⟩, lw_t1 (List.mem_of_getElem? (i := 62) rfl), lw_t3 (List.mem_of_getElem? (i := 206) rfl), lw_t3 (List.mem_of_getElem? (i := 207) rfl)⟩
theorem lw_p6 : lw_okq (⟨"java/util/ArrayList", "grow", "()[Ljava/lang/Object;"⟩, 3) := ⟨⟨by decide +kernel, by decide +kernel⟩, lw_t1 (List.mem_of_getElem? (i := 62) rfl), lw_t3 (List.mem_of_getElem? (i := 210) rfl), lw_t3 (List.mem_of_getElem? (i := 211) rfl)⟩
theorem lw_p7 : lw_okq (⟨"java/util/ArrayList", "grow", "(I)[Ljava/lang/Object;"⟩, 3) := ⟨⟨by decide +kernel, by decide +kernel⟩, lw_t1 (List.mem_of_getElem? (i := 62) rfl), lw_t3 (List.mem_of_getElem? (i := 214) rfl), lw_t3 (List.mem_of_getElem? (i := 215) rfl)⟩
theorem lw_p8 : lw_okq (⟨"StarEye$RuleReader", "either", "()LStarEye$Part;"⟩, 11) := ⟨⟨by decide +kernel, by decide +kernel⟩, lw_t4 (List.mem_of_getElem? (i := 56) rfl), lw_t4 (List.mem_of_getElem? (i := 54) rfl), lw_t4 (List.mem_of_getElem? (i := 55) rfl)⟩
theorem lw_p9 : lw_okq (⟨"StarEye$RuleReader", "both", "()LStarEye$Part;"⟩, 11) := ⟨⟨by decide +kernel, by decide +kernel⟩, lw_t4 (List.mem_of_getElem? (i := 56) rfl), lw_t4 (List.mem_of_getElem? (i := 59) rfl), lw_t4 (List.mem_of_getElem? (i := 60) rfl)⟩
theorem lw_p10 : lw_okq (⟨"StarEye$RuleReader", "one", "()LStarEye$Part;"⟩, 11) := ⟨⟨by decide +kernel, by decide +kernel⟩, lw_t4 (List.mem_of_getElem? (i := 56) rfl), lw_t4 (List.mem_of_getElem? (i := 63) rfl), lw_t4 (List.mem_of_getElem? (i := 64) rfl)⟩
theorem lw_p11 : lw_okq (⟨"StarEye$RuleReader", "into", "()V"⟩, 11) := ⟨⟨by decide +kernel, by decide +kernel⟩, lw_t4 (List.mem_of_getElem? (i := 56) rfl), lw_t4 (List.mem_of_getElem? (i := 68) rfl), lw_t4 (List.mem_of_getElem? (i := 69) rfl)⟩
theorem lw_p12 : lw_okq (⟨"StarEye$RuleReader", "sum", "()LStarEye$Part;"⟩, 11) := ⟨⟨by decide +kernel, by decide +kernel⟩, lw_t4 (List.mem_of_getElem? (i := 56) rfl), lw_t4 (List.mem_of_getElem? (i := 85) rfl), lw_t4 (List.mem_of_getElem? (i := 86) rfl)⟩
theorem lw_p13 : lw_okq (⟨"StarEye$RuleReader", "unit", "()LStarEye$Part;"⟩, 11) := ⟨⟨by decide +kernel, by decide +kernel⟩, lw_t4 (List.mem_of_getElem? (i := 56) rfl), lw_t4 (List.mem_of_getElem? (i := 89) rfl), lw_t4 (List.mem_of_getElem? (i := 90) rfl)⟩
theorem lw_p14 : lw_okq (⟨"StarEye$PictureReader", "over", "(I)I"⟩, 4) := ⟨⟨by decide +kernel, by decide +kernel⟩, lw_t4 (List.mem_of_getElem? (i := 186) rfl), lw_t4 (List.mem_of_getElem? (i := 184) rfl), lw_t4 (List.mem_of_getElem? (i := 185) rfl)⟩
theorem lw_p15 : lw_okq (⟨"StarEye", "forget", "()V"⟩, 13) := ⟨⟨by decide +kernel, by decide +kernel⟩, lw_t1 (List.mem_of_getElem? (i := 48) rfl), lw_t4 (List.mem_of_getElem? (i := 200) rfl), lw_t4 (List.mem_of_getElem? (i := 201) rfl)⟩
def lw_privs_1 : List (MethodName × Nat) := [(⟨"StarEye", "bytes", "(I)V"⟩, 13), (⟨"StarEye", "isRead", "(LStarEye$Text;)Z"⟩, 13), (⟨"java/lang/Throwable", "fillInStackTrace", "(I)Ljava/lang/Throwable;"⟩, 6), (⟨"StarEye$BookReader", "once", "(I)V"⟩, 10), (⟨"StarEye$BookReader", "star", "()V"⟩, 10), (⟨"java/util/ArrayList", "add", "(Ljava/lang/Object;[Ljava/lang/Object;I)V"⟩, 3), (⟨"java/util/ArrayList", "grow", "()[Ljava/lang/Object;"⟩, 3), (⟨"java/util/ArrayList", "grow", "(I)[Ljava/lang/Object;"⟩, 3), (⟨"StarEye$RuleReader", "either", "()LStarEye$Part;"⟩, 11), (⟨"StarEye$RuleReader", "both", "()LStarEye$Part;"⟩, 11), (⟨"StarEye$RuleReader", "one", "()LStarEye$Part;"⟩, 11), (⟨"StarEye$RuleReader", "into", "()V"⟩, 11), (⟨"StarEye$RuleReader", "sum", "()LStarEye$Part;"⟩, 11), (⟨"StarEye$RuleReader", "unit", "()LStarEye$Part;"⟩, 11), (⟨"StarEye$PictureReader", "over", "(I)I"⟩, 4), (⟨"StarEye", "forget", "()V"⟩, 13)]
theorem lw_r1 : ∀ q ∈ lw_privs_1, lw_okq q := List.forall_mem_cons.mpr ⟨lw_p0, List.forall_mem_cons.mpr ⟨lw_p1, List.forall_mem_cons.mpr ⟨lw_p2, List.forall_mem_cons.mpr ⟨lw_p3, List.forall_mem_cons.mpr ⟨lw_p4, List.forall_mem_cons.mpr ⟨lw_p5, List.forall_mem_cons.mpr ⟨lw_p6, List.forall_mem_cons.mpr ⟨lw_p7, List.forall_mem_cons.mpr ⟨lw_p8, List.forall_mem_cons.mpr ⟨lw_p9, List.forall_mem_cons.mpr ⟨lw_p10, List.forall_mem_cons.mpr ⟨lw_p11, List.forall_mem_cons.mpr ⟨lw_p12, List.forall_mem_cons.mpr ⟨lw_p13, List.forall_mem_cons.mpr ⟨lw_p14, List.forall_mem_cons.mpr ⟨lw_p15, fun _ h => absurd h List.not_mem_nil⟩⟩⟩⟩⟩⟩⟩⟩⟩⟩⟩⟩⟩⟩⟩⟩
theorem lw_p16 : lw_okq (⟨"StarEye$Finder", "find", "(I)V"⟩, 13) := ⟨⟨by decide +kernel, by decide +kernel⟩, lw_t4 (List.mem_of_getElem? (i := 227) rfl), lw_t4 (List.mem_of_getElem? (i := 235) rfl), lw_t4 (List.mem_of_getElem? (i := 236) rfl)⟩
theorem lw_p17 : lw_okq (⟨"StarEye$Finder", "meet", "(II)V"⟩, 13) := ⟨⟨by decide +kernel, by decide +kernel⟩, lw_t4 (List.mem_of_getElem? (i := 227) rfl), lw_t4 (List.mem_of_getElem? (i := 239) rfl), lw_t5 (List.mem_of_getElem? (i := 0) rfl)⟩
theorem lw_p18 : lw_okq (⟨"StarEye$Finder", "put", "(LStarEye$Dot;)V"⟩, 13) := ⟨⟨by decide +kernel, by decide +kernel⟩, lw_t4 (List.mem_of_getElem? (i := 227) rfl), lw_t5 (List.mem_of_getElem? (i := 28) rfl), lw_t5 (List.mem_of_getElem? (i := 29) rfl)⟩
theorem lw_p19 : lw_okq (⟨"java/util/ArrayList", "rangeCheckForAdd", "(I)V"⟩, 3) := ⟨⟨by decide +kernel, by decide +kernel⟩, lw_t1 (List.mem_of_getElem? (i := 62) rfl), lw_t5 (List.mem_of_getElem? (i := 42) rfl), lw_t5 (List.mem_of_getElem? (i := 43) rfl)⟩
theorem lw_p20 : lw_okq (⟨"java/util/ArrayList", "fastRemove", "([Ljava/lang/Object;I)V"⟩, 3) := ⟨⟨by decide +kernel, by decide +kernel⟩, lw_t1 (List.mem_of_getElem? (i := 62) rfl), lw_t5 (List.mem_of_getElem? (i := 51) rfl), lw_t5 (List.mem_of_getElem? (i := 52) rfl)⟩
theorem lw_p21 : lw_okq (⟨"StarEye", "at", "(II)LStarEye$Seen;"⟩, 13) := ⟨⟨by decide +kernel, by decide +kernel⟩, lw_t1 (List.mem_of_getElem? (i := 48) rfl), lw_t5 (List.mem_of_getElem? (i := 172) rfl), lw_t5 (List.mem_of_getElem? (i := 173) rfl)⟩
theorem lw_p22 : lw_okq (⟨"StarEye$Seen", "stays", "(LStarEye$Dot;I)Z"⟩, 8) := ⟨⟨by decide +kernel, by decide +kernel⟩, lw_t5 (List.mem_of_getElem? (i := 179) rfl), lw_t5 (List.mem_of_getElem? (i := 190) rfl), lw_t5 (List.mem_of_getElem? (i := 191) rfl)⟩
theorem lw_p23 : lw_okq (⟨"StarEye$Namer", "go", "(II)V"⟩, 5) := ⟨⟨by decide +kernel, by decide +kernel⟩, lw_t6 (List.mem_of_getElem? (i := 80) rfl), lw_t6 (List.mem_of_getElem? (i := 93) rfl), lw_t6 (List.mem_of_getElem? (i := 94) rfl)⟩
theorem lw_p24 : lw_okq (⟨"StarEye$Naming", "add", "(LStarEye$Place;LStarEye$Place;)V"⟩, 11) := ⟨⟨by decide +kernel, by decide +kernel⟩, lw_t6 (List.mem_of_getElem? (i := 97) rfl), lw_t6 (List.mem_of_getElem? (i := 117) rfl), lw_t6 (List.mem_of_getElem? (i := 118) rfl)⟩
theorem lw_p25 : lw_okq (⟨"StarEye$Naming", "turn", "(LStarEye$Place;LStarEye$Place;)V"⟩, 11) := ⟨⟨by decide +kernel, by decide +kernel⟩, lw_t6 (List.mem_of_getElem? (i := 97) rfl), lw_t6 (List.mem_of_getElem? (i := 121) rfl), lw_t6 (List.mem_of_getElem? (i := 122) rfl)⟩
theorem lw_p26 : lw_okq (⟨"StarEye$Namer", "isGood", "(II)Z"⟩, 5) := ⟨⟨by decide +kernel, by decide +kernel⟩, lw_t6 (List.mem_of_getElem? (i := 80) rfl), lw_t6 (List.mem_of_getElem? (i := 164) rfl), lw_t6 (List.mem_of_getElem? (i := 165) rfl)⟩
theorem lw_p27 : lw_okq (⟨"StarEye", "naming", "(III)LStarEye$Naming;"⟩, 13) := ⟨⟨by decide +kernel, by decide +kernel⟩, lw_t1 (List.mem_of_getElem? (i := 48) rfl), lw_t6 (List.mem_of_getElem? (i := 217) rfl), lw_t6 (List.mem_of_getElem? (i := 218) rfl)⟩
theorem lw_p28 : lw_okq (⟨"StarEye", "follow", "(LStarEye$Seen;LStarEye$Seen;II)[I"⟩, 13) := ⟨⟨by decide +kernel, by decide +kernel⟩, lw_t1 (List.mem_of_getElem? (i := 48) rfl), lw_t7 (List.mem_of_getElem? (i := 74) rfl), lw_t7 (List.mem_of_getElem? (i := 75) rfl)⟩
theorem lw_p29 : lw_okq (⟨"StarEye", "pointOf", "(III)LStarEye$Dot;"⟩, 13) := ⟨⟨by decide +kernel, by decide +kernel⟩, lw_t1 (List.mem_of_getElem? (i := 48) rfl), lw_t7 (List.mem_of_getElem? (i := 92) rfl), lw_t7 (List.mem_of_getElem? (i := 93) rfl)⟩
theorem lw_p30 : lw_okq (⟨"StarEye", "sees", "(II)J"⟩, 13) := ⟨⟨by decide +kernel, by decide +kernel⟩, lw_t1 (List.mem_of_getElem? (i := 48) rfl), lw_t7 (List.mem_of_getElem? (i := 104) rfl), lw_t7 (List.mem_of_getElem? (i := 105) rfl)⟩
theorem lw_p31 : lw_okq (⟨"StarEye", "trustOf", "(LStarEye$Seen;)I"⟩, 13) := ⟨⟨by decide +kernel, by decide +kernel⟩, lw_t1 (List.mem_of_getElem? (i := 48) rfl), lw_t7 (List.mem_of_getElem? (i := 151) rfl), lw_t7 (List.mem_of_getElem? (i := 152) rfl)⟩
def lw_privs_2 : List (MethodName × Nat) := [(⟨"StarEye$Finder", "find", "(I)V"⟩, 13), (⟨"StarEye$Finder", "meet", "(II)V"⟩, 13), (⟨"StarEye$Finder", "put", "(LStarEye$Dot;)V"⟩, 13), (⟨"java/util/ArrayList", "rangeCheckForAdd", "(I)V"⟩, 3), (⟨"java/util/ArrayList", "fastRemove", "([Ljava/lang/Object;I)V"⟩, 3), (⟨"StarEye", "at", "(II)LStarEye$Seen;"⟩, 13), (⟨"StarEye$Seen", "stays", "(LStarEye$Dot;I)Z"⟩, 8), (⟨"StarEye$Namer", "go", "(II)V"⟩, 5), (⟨"StarEye$Naming", "add", "(LStarEye$Place;LStarEye$Place;)V"⟩, 11), (⟨"StarEye$Naming", "turn", "(LStarEye$Place;LStarEye$Place;)V"⟩, 11), (⟨"StarEye$Namer", "isGood", "(II)Z"⟩, 5), (⟨"StarEye", "naming", "(III)LStarEye$Naming;"⟩, 13), (⟨"StarEye", "follow", "(LStarEye$Seen;LStarEye$Seen;II)[I"⟩, 13), (⟨"StarEye", "pointOf", "(III)LStarEye$Dot;"⟩, 13), (⟨"StarEye", "sees", "(II)J"⟩, 13), (⟨"StarEye", "trustOf", "(LStarEye$Seen;)I"⟩, 13)]
theorem lw_r2 : ∀ q ∈ lw_privs_2, lw_okq q := List.forall_mem_cons.mpr ⟨lw_p16, List.forall_mem_cons.mpr ⟨lw_p17, List.forall_mem_cons.mpr ⟨lw_p18, List.forall_mem_cons.mpr ⟨lw_p19, List.forall_mem_cons.mpr ⟨lw_p20, List.forall_mem_cons.mpr ⟨lw_p21, List.forall_mem_cons.mpr ⟨lw_p22, List.forall_mem_cons.mpr ⟨lw_p23, List.forall_mem_cons.mpr ⟨lw_p24, List.forall_mem_cons.mpr ⟨lw_p25, List.forall_mem_cons.mpr ⟨lw_p26, List.forall_mem_cons.mpr ⟨lw_p27, List.forall_mem_cons.mpr ⟨lw_p28, List.forall_mem_cons.mpr ⟨lw_p29, List.forall_mem_cons.mpr ⟨lw_p30, List.forall_mem_cons.mpr ⟨lw_p31, fun _ h => absurd h List.not_mem_nil⟩⟩⟩⟩⟩⟩⟩⟩⟩⟩⟩⟩⟩⟩⟩⟩
theorem lw_p32 : lw_okq (⟨"StarEyeModel", "plain", "()V"⟩, 94) := ⟨⟨by decide +kernel, by decide +kernel⟩, lw_t8 (List.mem_of_getElem? (i := 9) rfl), lw_t8 (List.mem_of_getElem? (i := 15) rfl), lw_t8 (List.mem_of_getElem? (i := 16) rfl)⟩
theorem lw_p33 : lw_okq (⟨"StarEyeModel", "four", "(I)V"⟩, 94) := ⟨⟨by decide +kernel, by decide +kernel⟩, lw_t8 (List.mem_of_getElem? (i := 9) rfl), lw_t9 (List.mem_of_getElem? (i := 69) rfl), lw_t9 (List.mem_of_getElem? (i := 70) rfl)⟩
theorem lw_p34 : lw_okq (⟨"StarEyeModel", "start", "()V"⟩, 94) := ⟨⟨by decide +kernel, by decide +kernel⟩, lw_t8 (List.mem_of_getElem? (i := 9) rfl), lw_t9 (List.mem_of_getElem? (i := 81) rfl), lw_t9 (List.mem_of_getElem? (i := 82) rfl)⟩
theorem lw_p35 : lw_okq (⟨"StarEyeModel", "token", "()V"⟩, 94) := ⟨⟨by decide +kernel, by decide +kernel⟩, lw_t8 (List.mem_of_getElem? (i := 9) rfl), lw_t9 (List.mem_of_getElem? (i := 85) rfl), lw_t9 (List.mem_of_getElem? (i := 86) rfl)⟩
theorem lw_p36 : lw_okq (⟨"StarEyeModel", "here", "(I)I"⟩, 94) := ⟨⟨by decide +kernel, by decide +kernel⟩, lw_t8 (List.mem_of_getElem? (i := 9) rfl), lw_t9 (List.mem_of_getElem? (i := 89) rfl), lw_t9 (List.mem_of_getElem? (i := 90) rfl)⟩
theorem lw_p37 : lw_okq (⟨"StarEyeModel", "isSign", "(I)Z"⟩, 94) := ⟨⟨by decide +kernel, by decide +kernel⟩, lw_t8 (List.mem_of_getElem? (i := 9) rfl), lw_t9 (List.mem_of_getElem? (i := 99) rfl), lw_t9 (List.mem_of_getElem? (i := 100) rfl)⟩
theorem lw_p38 : lw_okq (⟨"StarEyeModel", "lineOf", "()I"⟩, 94) := ⟨⟨by decide +kernel, by decide +kernel⟩, lw_t8 (List.mem_of_getElem? (i := 9) rfl), lw_t9 (List.mem_of_getElem? (i := 103) rfl), lw_t9 (List.mem_of_getElem? (i := 104) rfl)⟩
theorem lw_p39 : lw_okq (⟨"StarEyeModel", "isWord", "(J)Z"⟩, 94) := ⟨⟨by decide +kernel, by decide +kernel⟩, lw_t8 (List.mem_of_getElem? (i := 9) rfl), lw_t9 (List.mem_of_getElem? (i := 108) rfl), lw_t9 (List.mem_of_getElem? (i := 109) rfl)⟩
theorem lw_p40 : lw_okq (⟨"StarEyeModel", "readStar", "()V"⟩, 94) := ⟨⟨by decide +kernel, by decide +kernel⟩, lw_t8 (List.mem_of_getElem? (i := 9) rfl), lw_t9 (List.mem_of_getElem? (i := 119) rfl), lw_t9 (List.mem_of_getElem? (i := 120) rfl)⟩
theorem lw_p41 : lw_okq (⟨"StarEyeModel", "isName", "()Z"⟩, 94) := ⟨⟨by decide +kernel, by decide +kernel⟩, lw_t8 (List.mem_of_getElem? (i := 9) rfl), lw_t9 (List.mem_of_getElem? (i := 123) rfl), lw_t9 (List.mem_of_getElem? (i := 124) rfl)⟩
theorem lw_p42 : lw_okq (⟨"StarEyeModel", "wrong", "(I)V"⟩, 94) := ⟨⟨by decide +kernel, by decide +kernel⟩, lw_t8 (List.mem_of_getElem? (i := 9) rfl), lw_t9 (List.mem_of_getElem? (i := 146) rfl), lw_t9 (List.mem_of_getElem? (i := 147) rfl)⟩
theorem lw_p43 : lw_okq (⟨"StarEyeModel", "want", "(J)V"⟩, 94) := ⟨⟨by decide +kernel, by decide +kernel⟩, lw_t8 (List.mem_of_getElem? (i := 9) rfl), lw_t9 (List.mem_of_getElem? (i := 150) rfl), lw_t9 (List.mem_of_getElem? (i := 151) rfl)⟩
theorem lw_p44 : lw_okq (⟨"StarEyeModel", "toldNumber", "(II)I"⟩, 94) := ⟨⟨by decide +kernel, by decide +kernel⟩, lw_t8 (List.mem_of_getElem? (i := 9) rfl), lw_t9 (List.mem_of_getElem? (i := 154) rfl), lw_t9 (List.mem_of_getElem? (i := 155) rfl)⟩
theorem lw_p45 : lw_okq (⟨"StarEyeModel", "readTold", "(I)V"⟩, 94) := ⟨⟨by decide +kernel, by decide +kernel⟩, lw_t8 (List.mem_of_getElem? (i := 9) rfl), lw_t9 (List.mem_of_getElem? (i := 158) rfl), lw_t9 (List.mem_of_getElem? (i := 159) rfl)⟩
theorem lw_p46 : lw_okq (⟨"StarEyeModel", "toldBy", "(JII)I"⟩, 94) := ⟨⟨by decide +kernel, by decide +kernel⟩, lw_t8 (List.mem_of_getElem? (i := 9) rfl), lw_t9 (List.mem_of_getElem? (i := 162) rfl), lw_t9 (List.mem_of_getElem? (i := 163) rfl)⟩
theorem lw_p47 : lw_okq (⟨"StarEyeModel", "signed", "(II)I"⟩, 94) := ⟨⟨by decide +kernel, by decide +kernel⟩, lw_t8 (List.mem_of_getElem? (i := 9) rfl), lw_t9 (List.mem_of_getElem? (i := 166) rfl), lw_t9 (List.mem_of_getElem? (i := 167) rfl)⟩
def lw_privs_3 : List (MethodName × Nat) := [(⟨"StarEyeModel", "plain", "()V"⟩, 94), (⟨"StarEyeModel", "four", "(I)V"⟩, 94), (⟨"StarEyeModel", "start", "()V"⟩, 94), (⟨"StarEyeModel", "token", "()V"⟩, 94), (⟨"StarEyeModel", "here", "(I)I"⟩, 94), (⟨"StarEyeModel", "isSign", "(I)Z"⟩, 94), (⟨"StarEyeModel", "lineOf", "()I"⟩, 94), (⟨"StarEyeModel", "isWord", "(J)Z"⟩, 94), (⟨"StarEyeModel", "readStar", "()V"⟩, 94), (⟨"StarEyeModel", "isName", "()Z"⟩, 94), (⟨"StarEyeModel", "wrong", "(I)V"⟩, 94), (⟨"StarEyeModel", "want", "(J)V"⟩, 94), (⟨"StarEyeModel", "toldNumber", "(II)I"⟩, 94), (⟨"StarEyeModel", "readTold", "(I)V"⟩, 94), (⟨"StarEyeModel", "toldBy", "(JII)I"⟩, 94), (⟨"StarEyeModel", "signed", "(II)I"⟩, 94)]
theorem lw_r3 : ∀ q ∈ lw_privs_3, lw_okq q := List.forall_mem_cons.mpr ⟨lw_p32, List.forall_mem_cons.mpr ⟨lw_p33, List.forall_mem_cons.mpr ⟨lw_p34, List.forall_mem_cons.mpr ⟨lw_p35, List.forall_mem_cons.mpr ⟨lw_p36, List.forall_mem_cons.mpr ⟨lw_p37, List.forall_mem_cons.mpr ⟨lw_p38, List.forall_mem_cons.mpr ⟨lw_p39, List.forall_mem_cons.mpr ⟨lw_p40, List.forall_mem_cons.mpr ⟨lw_p41, List.forall_mem_cons.mpr ⟨lw_p42, List.forall_mem_cons.mpr ⟨lw_p43, List.forall_mem_cons.mpr ⟨lw_p44, List.forall_mem_cons.mpr ⟨lw_p45, List.forall_mem_cons.mpr ⟨lw_p46, List.forall_mem_cons.mpr ⟨lw_p47, fun _ h => absurd h List.not_mem_nil⟩⟩⟩⟩⟩⟩⟩⟩⟩⟩⟩⟩⟩⟩⟩⟩
theorem lw_p48 : lw_okq (⟨"StarEyeModel", "readPicture", "()V"⟩, 94) := ⟨⟨by decide +kernel, by decide +kernel⟩, lw_t8 (List.mem_of_getElem? (i := 9) rfl), lw_t9 (List.mem_of_getElem? (i := 178) rfl), lw_t9 (List.mem_of_getElem? (i := 179) rfl)⟩
theorem lw_p49 : lw_okq (⟨"StarEyeModel", "counts", "(II)Z"⟩, 94) := ⟨⟨by decide +kernel, by decide +kernel⟩, lw_t8 (List.mem_of_getElem? (i := 9) rfl), lw_t9 (List.mem_of_getElem? (i := 202) rfl), lw_t9 (List.mem_of_getElem? (i := 203) rfl)⟩
theorem lw_p50 : lw_okq (⟨"StarEyeModel", "lookAt", "(II)V"⟩, 94) := ⟨⟨by decide +kernel, by decide +kernel⟩, lw_t8 (List.mem_of_getElem? (i := 9) rfl), lw_t9 (List.mem_of_getElem? (i := 206) rfl), lw_t9 (List.mem_of_getElem? (i := 207) rfl)⟩
theorem lw_p51 : lw_okq (⟨"StarEyeModel", "findDots", "(I)V"⟩, 94) := ⟨⟨by decide +kernel, by decide +kernel⟩, lw_t8 (List.mem_of_getElem? (i := 9) rfl), lw_t9 (List.mem_of_getElem? (i := 210) rfl), lw_t9 (List.mem_of_getElem? (i := 211) rfl)⟩
theorem lw_p52 : lw_okq (⟨"StarEyeModel", "isBright", "(II)Z"⟩, 94) := ⟨⟨by decide +kernel, by decide +kernel⟩, lw_t8 (List.mem_of_getElem? (i := 9) rfl), lw_t9 (List.mem_of_getElem? (i := 214) rfl), lw_t9 (List.mem_of_getElem? (i := 215) rfl)⟩
theorem lw_p53 : lw_okq (⟨"StarEyeModel", "spread", "(III)V"⟩, 94) := ⟨⟨by decide +kernel, by decide +kernel⟩, lw_t8 (List.mem_of_getElem? (i := 9) rfl), lw_t9 (List.mem_of_getElem? (i := 218) rfl), lw_t9 (List.mem_of_getElem? (i := 219) rfl)⟩
theorem lw_p54 : lw_okq (⟨"StarEyeModel", "measure", "(II)V"⟩, 94) := ⟨⟨by decide +kernel, by decide +kernel⟩, lw_t8 (List.mem_of_getElem? (i := 9) rfl), lw_t9 (List.mem_of_getElem? (i := 222) rfl), lw_t9 (List.mem_of_getElem? (i := 223) rfl)⟩
theorem lw_p55 : lw_okq (⟨"StarEyeModel", "isAhead", "(II)Z"⟩, 94) := ⟨⟨by decide +kernel, by decide +kernel⟩, lw_t8 (List.mem_of_getElem? (i := 9) rfl), lw_t9 (List.mem_of_getElem? (i := 226) rfl), lw_t9 (List.mem_of_getElem? (i := 227) rfl)⟩
theorem lw_p56 : lw_okq (⟨"StarEyeModel", "pixelOf", "(I)I"⟩, 94) := ⟨⟨by decide +kernel, by decide +kernel⟩, lw_t8 (List.mem_of_getElem? (i := 9) rfl), lw_t9 (List.mem_of_getElem? (i := 230) rfl), lw_t9 (List.mem_of_getElem? (i := 231) rfl)⟩
theorem lw_p57 : lw_okq (⟨"StarEyeModel", "kinds", "(I)I"⟩, 94) := ⟨⟨by decide +kernel, by decide +kernel⟩, lw_t8 (List.mem_of_getElem? (i := 9) rfl), lw_t9 (List.mem_of_getElem? (i := 234) rfl), lw_t9 (List.mem_of_getElem? (i := 235) rfl)⟩
theorem lw_p58 : lw_okq (⟨"StarEyeModel", "starLength", "(II)I"⟩, 94) := ⟨⟨by decide +kernel, by decide +kernel⟩, lw_t8 (List.mem_of_getElem? (i := 9) rfl), lw_t10 (List.mem_of_getElem? (i := 10) rfl), lw_t10 (List.mem_of_getElem? (i := 11) rfl)⟩
theorem lw_p59 : lw_okq (⟨"StarEyeModel", "seekNamings", "(II)V"⟩, 94) := ⟨⟨by decide +kernel, by decide +kernel⟩, lw_t8 (List.mem_of_getElem? (i := 9) rfl), lw_t10 (List.mem_of_getElem? (i := 26) rfl), lw_t10 (List.mem_of_getElem? (i := 27) rfl)⟩
theorem lw_p60 : lw_okq (⟨"StarEyeModel", "layLengths", "()V"⟩, 94) := ⟨⟨by decide +kernel, by decide +kernel⟩, lw_t8 (List.mem_of_getElem? (i := 9) rfl), lw_t10 (List.mem_of_getElem? (i := 30) rfl), lw_t10 (List.mem_of_getElem? (i := 31) rfl)⟩
theorem lw_p61 : lw_okq (⟨"StarEyeModel", "pointLength", "(II)I"⟩, 94) := ⟨⟨by decide +kernel, by decide +kernel⟩, lw_t8 (List.mem_of_getElem? (i := 9) rfl), lw_t10 (List.mem_of_getElem? (i := 34) rfl), lw_t10 (List.mem_of_getElem? (i := 35) rfl)⟩
theorem lw_p62 : lw_okq (⟨"StarEyeModel", "pointX", "(I)I"⟩, 94) := ⟨⟨by decide +kernel, by decide +kernel⟩, lw_t8 (List.mem_of_getElem? (i := 9) rfl), lw_t10 (List.mem_of_getElem? (i := 38) rfl), lw_t10 (List.mem_of_getElem? (i := 39) rfl)⟩
theorem lw_p63 : lw_okq (⟨"StarEyeModel", "pointY", "(I)I"⟩, 94) := ⟨⟨by decide +kernel, by decide +kernel⟩, lw_t8 (List.mem_of_getElem? (i := 9) rfl), lw_t10 (List.mem_of_getElem? (i := 42) rfl), lw_t10 (List.mem_of_getElem? (i := 43) rfl)⟩
def lw_privs_4 : List (MethodName × Nat) := [(⟨"StarEyeModel", "readPicture", "()V"⟩, 94), (⟨"StarEyeModel", "counts", "(II)Z"⟩, 94), (⟨"StarEyeModel", "lookAt", "(II)V"⟩, 94), (⟨"StarEyeModel", "findDots", "(I)V"⟩, 94), (⟨"StarEyeModel", "isBright", "(II)Z"⟩, 94), (⟨"StarEyeModel", "spread", "(III)V"⟩, 94), (⟨"StarEyeModel", "measure", "(II)V"⟩, 94), (⟨"StarEyeModel", "isAhead", "(II)Z"⟩, 94), (⟨"StarEyeModel", "pixelOf", "(I)I"⟩, 94), (⟨"StarEyeModel", "kinds", "(I)I"⟩, 94), (⟨"StarEyeModel", "starLength", "(II)I"⟩, 94), (⟨"StarEyeModel", "seekNamings", "(II)V"⟩, 94), (⟨"StarEyeModel", "layLengths", "()V"⟩, 94), (⟨"StarEyeModel", "pointLength", "(II)I"⟩, 94), (⟨"StarEyeModel", "pointX", "(I)I"⟩, 94), (⟨"StarEyeModel", "pointY", "(I)I"⟩, 94)]
theorem lw_r4 : ∀ q ∈ lw_privs_4, lw_okq q := List.forall_mem_cons.mpr ⟨lw_p48, List.forall_mem_cons.mpr ⟨lw_p49, List.forall_mem_cons.mpr ⟨lw_p50, List.forall_mem_cons.mpr ⟨lw_p51, List.forall_mem_cons.mpr ⟨lw_p52, List.forall_mem_cons.mpr ⟨lw_p53, List.forall_mem_cons.mpr ⟨lw_p54, List.forall_mem_cons.mpr ⟨lw_p55, List.forall_mem_cons.mpr ⟨lw_p56, List.forall_mem_cons.mpr ⟨lw_p57, List.forall_mem_cons.mpr ⟨lw_p58, List.forall_mem_cons.mpr ⟨lw_p59, List.forall_mem_cons.mpr ⟨lw_p60, List.forall_mem_cons.mpr ⟨lw_p61, List.forall_mem_cons.mpr ⟨lw_p62, List.forall_mem_cons.mpr ⟨lw_p63, fun _ h => absurd h List.not_mem_nil⟩⟩⟩⟩⟩⟩⟩⟩⟩⟩⟩⟩⟩⟩⟩⟩
theorem lw_p64 : lw_okq (⟨"StarEyeModel", "seekNaming", "(II)V"⟩, 94) := ⟨⟨by decide +kernel, by decide +kernel⟩, lw_t8 (List.mem_of_getElem? (i := 9) rfl), lw_t10 (List.mem_of_getElem? (i := 46) rfl), lw_t10 (List.mem_of_getElem? (i := 47) rfl)⟩
theorem lw_p65 : lw_okq (⟨"StarEyeModel", "unnamed", "(I)I"⟩, 94) := ⟨⟨by decide +kernel, by decide +kernel⟩, lw_t8 (List.mem_of_getElem? (i := 9) rfl), lw_t10 (List.mem_of_getElem? (i := 53) rfl), lw_t10 (List.mem_of_getElem? (i := 54) rfl)⟩
theorem lw_p66 : lw_okq (⟨"StarEyeModel", "goes", "(I)Z"⟩, 94) := ⟨⟨by decide +kernel, by decide +kernel⟩, lw_t8 (List.mem_of_getElem? (i := 9) rfl), lw_t10 (List.mem_of_getElem? (i := 57) rfl), lw_t10 (List.mem_of_getElem? (i := 58) rfl)⟩
theorem lw_p67 : lw_okq (⟨"StarEyeModel", "fit", "(IIII)Z"⟩, 94) := ⟨⟨by decide +kernel, by decide +kernel⟩, lw_t8 (List.mem_of_getElem? (i := 9) rfl), lw_t10 (List.mem_of_getElem? (i := 61) rfl), lw_t10 (List.mem_of_getElem? (i := 62) rfl)⟩
theorem lw_p68 : lw_okq (⟨"StarEyeModel", "lieAlike", "(IIIIII)Z"⟩, 94) := ⟨⟨by decide +kernel, by decide +kernel⟩, lw_t8 (List.mem_of_getElem? (i := 9) rfl), lw_t10 (List.mem_of_getElem? (i := 68) rfl), lw_t10 (List.mem_of_getElem? (i := 69) rfl)⟩
theorem lw_p69 : lw_okq (⟨"StarEyeModel", "hasNaming", "(III)Z"⟩, 94) := ⟨⟨by decide +kernel, by decide +kernel⟩, lw_t8 (List.mem_of_getElem? (i := 9) rfl), lw_t10 (List.mem_of_getElem? (i := 82) rfl), lw_t10 (List.mem_of_getElem? (i := 83) rfl)⟩
theorem lw_p70 : lw_okq (⟨"StarEyeModel", "isNamed", "(II)Z"⟩, 94) := ⟨⟨by decide +kernel, by decide +kernel⟩, lw_t8 (List.mem_of_getElem? (i := 9) rfl), lw_t10 (List.mem_of_getElem? (i := 86) rfl), lw_t10 (List.mem_of_getElem? (i := 87) rfl)⟩
theorem lw_p71 : lw_okq (⟨"StarEyeModel", "seekOdds", "(I)V"⟩, 94) := ⟨⟨by decide +kernel, by decide +kernel⟩, lw_t8 (List.mem_of_getElem? (i := 9) rfl), lw_t10 (List.mem_of_getElem? (i := 95) rfl), lw_t10 (List.mem_of_getElem? (i := 96) rfl)⟩
theorem lw_p72 : lw_okq (⟨"StarEyeModel", "fitting", "(II)I"⟩, 94) := ⟨⟨by decide +kernel, by decide +kernel⟩, lw_t8 (List.mem_of_getElem? (i := 9) rfl), lw_t10 (List.mem_of_getElem? (i := 99) rfl), lw_t10 (List.mem_of_getElem? (i := 100) rfl)⟩
theorem lw_p73 : lw_okq (⟨"StarEyeModel", "reduce", "(JJ)V"⟩, 94) := ⟨⟨by decide +kernel, by decide +kernel⟩, lw_t8 (List.mem_of_getElem? (i := 9) rfl), lw_t10 (List.mem_of_getElem? (i := 103) rfl), lw_t10 (List.mem_of_getElem? (i := 104) rfl)⟩
theorem lw_p74 : lw_okq (⟨"StarEyeModel", "tells", "()Z"⟩, 94) := ⟨⟨by decide +kernel, by decide +kernel⟩, lw_t8 (List.mem_of_getElem? (i := 9) rfl), lw_t10 (List.mem_of_getElem? (i := 114) rfl), lw_t10 (List.mem_of_getElem? (i := 115) rfl)⟩
theorem lw_p75 : lw_okq (⟨"StarEyeModel", "seekTurn", "(I)V"⟩, 94) := ⟨⟨by decide +kernel, by decide +kernel⟩, lw_t8 (List.mem_of_getElem? (i := 9) rfl), lw_t10 (List.mem_of_getElem? (i := 122) rfl), lw_t10 (List.mem_of_getElem? (i := 123) rfl)⟩
theorem lw_p76 : lw_okq (⟨"StarEyeModel", "ownX", "(II)J"⟩, 94) := ⟨⟨by decide +kernel, by decide +kernel⟩, lw_t8 (List.mem_of_getElem? (i := 9) rfl), lw_t10 (List.mem_of_getElem? (i := 126) rfl), lw_t10 (List.mem_of_getElem? (i := 127) rfl)⟩
theorem lw_p77 : lw_okq (⟨"StarEyeModel", "ownY", "(II)J"⟩, 94) := ⟨⟨by decide +kernel, by decide +kernel⟩, lw_t8 (List.mem_of_getElem? (i := 9) rfl), lw_t10 (List.mem_of_getElem? (i := 131) rfl), lw_t10 (List.mem_of_getElem? (i := 132) rfl)⟩
theorem lw_p78 : lw_okq (⟨"StarEyeModel", "stretchOf", "(I)J"⟩, 94) := ⟨⟨by decide +kernel, by decide +kernel⟩, lw_t8 (List.mem_of_getElem? (i := 9) rfl), lw_t10 (List.mem_of_getElem? (i := 144) rfl), lw_t10 (List.mem_of_getElem? (i := 145) rfl)⟩
theorem lw_p79 : lw_okq (⟨"StarEyeModel", "seekFollowed", "(IIIII)Z"⟩, 94) := ⟨⟨by decide +kernel, by decide +kernel⟩, lw_t8 (List.mem_of_getElem? (i := 9) rfl), lw_t10 (List.mem_of_getElem? (i := 153) rfl), lw_t10 (List.mem_of_getElem? (i := 154) rfl)⟩
def lw_privs_5 : List (MethodName × Nat) := [(⟨"StarEyeModel", "seekNaming", "(II)V"⟩, 94), (⟨"StarEyeModel", "unnamed", "(I)I"⟩, 94), (⟨"StarEyeModel", "goes", "(I)Z"⟩, 94), (⟨"StarEyeModel", "fit", "(IIII)Z"⟩, 94), (⟨"StarEyeModel", "lieAlike", "(IIIIII)Z"⟩, 94), (⟨"StarEyeModel", "hasNaming", "(III)Z"⟩, 94), (⟨"StarEyeModel", "isNamed", "(II)Z"⟩, 94), (⟨"StarEyeModel", "seekOdds", "(I)V"⟩, 94), (⟨"StarEyeModel", "fitting", "(II)I"⟩, 94), (⟨"StarEyeModel", "reduce", "(JJ)V"⟩, 94), (⟨"StarEyeModel", "tells", "()Z"⟩, 94), (⟨"StarEyeModel", "seekTurn", "(I)V"⟩, 94), (⟨"StarEyeModel", "ownX", "(II)J"⟩, 94), (⟨"StarEyeModel", "ownY", "(II)J"⟩, 94), (⟨"StarEyeModel", "stretchOf", "(I)J"⟩, 94), (⟨"StarEyeModel", "seekFollowed", "(IIIII)Z"⟩, 94)]
theorem lw_r5 : ∀ q ∈ lw_privs_5, lw_okq q := List.forall_mem_cons.mpr ⟨lw_p64, List.forall_mem_cons.mpr ⟨lw_p65, List.forall_mem_cons.mpr ⟨lw_p66, List.forall_mem_cons.mpr ⟨lw_p67, List.forall_mem_cons.mpr ⟨lw_p68, List.forall_mem_cons.mpr ⟨lw_p69, List.forall_mem_cons.mpr ⟨lw_p70, List.forall_mem_cons.mpr ⟨lw_p71, List.forall_mem_cons.mpr ⟨lw_p72, List.forall_mem_cons.mpr ⟨lw_p73, List.forall_mem_cons.mpr ⟨lw_p74, List.forall_mem_cons.mpr ⟨lw_p75, List.forall_mem_cons.mpr ⟨lw_p76, List.forall_mem_cons.mpr ⟨lw_p77, List.forall_mem_cons.mpr ⟨lw_p78, List.forall_mem_cons.mpr ⟨lw_p79, fun _ h => absurd h List.not_mem_nil⟩⟩⟩⟩⟩⟩⟩⟩⟩⟩⟩⟩⟩⟩⟩⟩
theorem lw_p80 : lw_okq (⟨"StarEyeModel", "seekStar", "(III)Z"⟩, 94) := ⟨⟨by decide +kernel, by decide +kernel⟩, lw_t8 (List.mem_of_getElem? (i := 9) rfl), lw_t10 (List.mem_of_getElem? (i := 169) rfl), lw_t10 (List.mem_of_getElem? (i := 170) rfl)⟩
theorem lw_p81 : lw_okq (⟨"StarEyeModel", "seenFrom", "(III)I"⟩, 94) := ⟨⟨by decide +kernel, by decide +kernel⟩, lw_t8 (List.mem_of_getElem? (i := 9) rfl), lw_t10 (List.mem_of_getElem? (i := 184) rfl), lw_t10 (List.mem_of_getElem? (i := 185) rfl)⟩
theorem lw_p82 : lw_okq (⟨"StarEyeModel", "sees", "(III)Z"⟩, 94) := ⟨⟨by decide +kernel, by decide +kernel⟩, lw_t8 (List.mem_of_getElem? (i := 9) rfl), lw_t10 (List.mem_of_getElem? (i := 188) rfl), lw_t10 (List.mem_of_getElem? (i := 189) rfl)⟩
theorem lw_p83 : lw_okq (⟨"StarEyeModel", "isEnough", "(I)Z"⟩, 94) := ⟨⟨by decide +kernel, by decide +kernel⟩, lw_t8 (List.mem_of_getElem? (i := 9) rfl), lw_t10 (List.mem_of_getElem? (i := 199) rfl), lw_t10 (List.mem_of_getElem? (i := 200) rfl)⟩
theorem lw_p84 : lw_okq (⟨"StarEyeModel", "readRule", "()V"⟩, 94) := ⟨⟨by decide +kernel, by decide +kernel⟩, lw_t8 (List.mem_of_getElem? (i := 9) rfl), lw_t10 (List.mem_of_getElem? (i := 216) rfl), lw_t10 (List.mem_of_getElem? (i := 217) rfl)⟩
theorem lw_p85 : lw_okq (⟨"StarEyeModel", "isOpen", "()Z"⟩, 94) := ⟨⟨by decide +kernel, by decide +kernel⟩, lw_t8 (List.mem_of_getElem? (i := 9) rfl), lw_t10 (List.mem_of_getElem? (i := 220) rfl), lw_t10 (List.mem_of_getElem? (i := 221) rfl)⟩
theorem lw_p86 : lw_okq (⟨"StarEyeModel", "sign", "()I"⟩, 94) := ⟨⟨by decide +kernel, by decide +kernel⟩, lw_t8 (List.mem_of_getElem? (i := 9) rfl), lw_t10 (List.mem_of_getElem? (i := 224) rfl), lw_t10 (List.mem_of_getElem? (i := 225) rfl)⟩
theorem lw_p87 : lw_okq (⟨"StarEyeModel", "settle", "(I)V"⟩, 94) := ⟨⟨by decide +kernel, by decide +kernel⟩, lw_t8 (List.mem_of_getElem? (i := 9) rfl), lw_t10 (List.mem_of_getElem? (i := 228) rfl), lw_t10 (List.mem_of_getElem? (i := 229) rfl)⟩
theorem lw_p88 : lw_okq (⟨"StarEyeModel", "upper", "()I"⟩, 94) := ⟨⟨by decide +kernel, by decide +kernel⟩, lw_t8 (List.mem_of_getElem? (i := 9) rfl), lw_t10 (List.mem_of_getElem? (i := 232) rfl), lw_t10 (List.mem_of_getElem? (i := 233) rfl)⟩
theorem lw_p89 : lw_okq (⟨"StarEyeModel", "pop", "()V"⟩, 94) := ⟨⟨by decide +kernel, by decide +kernel⟩, lw_t8 (List.mem_of_getElem? (i := 9) rfl), lw_t10 (List.mem_of_getElem? (i := 236) rfl), lw_t10 (List.mem_of_getElem? (i := 237) rfl)⟩
theorem lw_p90 : lw_okq (⟨"StarEyeModel", "note", "(II)V"⟩, 94) := ⟨⟨by decide +kernel, by decide +kernel⟩, lw_t8 (List.mem_of_getElem? (i := 9) rfl), lw_t11 (List.mem_of_getElem? (i := 0) rfl), lw_t11 (List.mem_of_getElem? (i := 1) rfl)⟩
theorem lw_p91 : lw_okq (⟨"StarEyeModel", "hold", "(I)V"⟩, 94) := ⟨⟨by decide +kernel, by decide +kernel⟩, lw_t8 (List.mem_of_getElem? (i := 9) rfl), lw_t11 (List.mem_of_getElem? (i := 7) rfl), lw_t11 (List.mem_of_getElem? (i := 8) rfl)⟩
theorem lw_p92 : lw_okq (⟨"StarEyeModel", "operand", "(I)I"⟩, 94) := ⟨⟨by decide +kernel, by decide +kernel⟩, lw_t8 (List.mem_of_getElem? (i := 9) rfl), lw_t11 (List.mem_of_getElem? (i := 11) rfl), lw_t11 (List.mem_of_getElem? (i := 12) rfl)⟩
theorem lw_p93 : lw_okq (⟨"StarEyeModel", "known", "()I"⟩, 94) := ⟨⟨by decide +kernel, by decide +kernel⟩, lw_t8 (List.mem_of_getElem? (i := 9) rfl), lw_t11 (List.mem_of_getElem? (i := 15) rfl), lw_t11 (List.mem_of_getElem? (i := 16) rfl)⟩
theorem lw_p94 : lw_okq (⟨"StarEyeModel", "trustOf", "(II)I"⟩, 94) := ⟨⟨by decide +kernel, by decide +kernel⟩, lw_t8 (List.mem_of_getElem? (i := 9) rfl), lw_t11 (List.mem_of_getElem? (i := 23) rfl), lw_t11 (List.mem_of_getElem? (i := 24) rfl)⟩
theorem lw_p95 : lw_okq (⟨"StarEyeModel", "holds", "(I)Z"⟩, 94) := ⟨⟨by decide +kernel, by decide +kernel⟩, lw_t8 (List.mem_of_getElem? (i := 9) rfl), lw_t11 (List.mem_of_getElem? (i := 27) rfl), lw_t11 (List.mem_of_getElem? (i := 28) rfl)⟩
def lw_privs_6 : List (MethodName × Nat) := [(⟨"StarEyeModel", "seekStar", "(III)Z"⟩, 94), (⟨"StarEyeModel", "seenFrom", "(III)I"⟩, 94), (⟨"StarEyeModel", "sees", "(III)Z"⟩, 94), (⟨"StarEyeModel", "isEnough", "(I)Z"⟩, 94), (⟨"StarEyeModel", "readRule", "()V"⟩, 94), (⟨"StarEyeModel", "isOpen", "()Z"⟩, 94), (⟨"StarEyeModel", "sign", "()I"⟩, 94), (⟨"StarEyeModel", "settle", "(I)V"⟩, 94), (⟨"StarEyeModel", "upper", "()I"⟩, 94), (⟨"StarEyeModel", "pop", "()V"⟩, 94), (⟨"StarEyeModel", "note", "(II)V"⟩, 94), (⟨"StarEyeModel", "hold", "(I)V"⟩, 94), (⟨"StarEyeModel", "operand", "(I)I"⟩, 94), (⟨"StarEyeModel", "known", "()I"⟩, 94), (⟨"StarEyeModel", "trustOf", "(II)I"⟩, 94), (⟨"StarEyeModel", "holds", "(I)Z"⟩, 94)]
theorem lw_r6 : ∀ q ∈ lw_privs_6, lw_okq q := List.forall_mem_cons.mpr ⟨lw_p80, List.forall_mem_cons.mpr ⟨lw_p81, List.forall_mem_cons.mpr ⟨lw_p82, List.forall_mem_cons.mpr ⟨lw_p83, List.forall_mem_cons.mpr ⟨lw_p84, List.forall_mem_cons.mpr ⟨lw_p85, List.forall_mem_cons.mpr ⟨lw_p86, List.forall_mem_cons.mpr ⟨lw_p87, List.forall_mem_cons.mpr ⟨lw_p88, List.forall_mem_cons.mpr ⟨lw_p89, List.forall_mem_cons.mpr ⟨lw_p90, List.forall_mem_cons.mpr ⟨lw_p91, List.forall_mem_cons.mpr ⟨lw_p92, List.forall_mem_cons.mpr ⟨lw_p93, List.forall_mem_cons.mpr ⟨lw_p94, List.forall_mem_cons.mpr ⟨lw_p95, fun _ h => absurd h List.not_mem_nil⟩⟩⟩⟩⟩⟩⟩⟩⟩⟩⟩⟩⟩⟩⟩⟩
def lw_privs : List (MethodName × Nat) := lw_privs_1 ++ (lw_privs_2 ++ (lw_privs_3 ++ (lw_privs_4 ++ (lw_privs_5 ++ (lw_privs_6)))))
/-- a private method, selected for the heirs of its class -/
def lw_ext : List Cond := [Cond.selects "StarEye$BookReader" ⟨"StarEye$Reader", "readWord", "()V"⟩ ⟨"StarEye$Reader", "readWord", "()V"⟩, Cond.selects "StarEye$RuleReader" ⟨"StarEye$Reader", "readWord", "()V"⟩ ⟨"StarEye$Reader", "readWord", "()V"⟩, Cond.selects "StarEye$BookReader" ⟨"StarEye$Reader", "readNumber", "()V"⟩ ⟨"StarEye$Reader", "readNumber", "()V"⟩, Cond.selects "StarEye$RuleReader" ⟨"StarEye$Reader", "readNumber", "()V"⟩ ⟨"StarEye$Reader", "readNumber", "()V"⟩]
def lw_tbl : List Cond := (k2_sels lw_privs ++ tables_1) ++ lw_ext
theorem lw_privs_ok : ∀ q ∈ lw_privs, lw_okq q := by
  show ∀ q ∈ lw_privs_1 ++ (lw_privs_2 ++ (lw_privs_3 ++ (lw_privs_4 ++ (lw_privs_5 ++ (lw_privs_6))))), lw_okq q
  exact List.forall_mem_append.mpr ⟨lw_r1, List.forall_mem_append.mpr ⟨lw_r2, List.forall_mem_append.mpr ⟨lw_r3, List.forall_mem_append.mpr ⟨lw_r4, List.forall_mem_append.mpr ⟨lw_r5, lw_r6⟩⟩⟩⟩⟩
-- ===== ONE list of words for every method: the tables' words that hold all through a run =====
def lw_all : List Cond := lw_tbl.filter goodWord
/-- a word of the tables by its place: claim/WORDS.tsv -/
theorem lw_w {w : Cond} (i : Nat) (h : lw_tbl[i]? = some w) (g : goodWord w = true) : w ∈ lw_all := List.mem_filter.mpr ⟨List.mem_of_getElem? h, g⟩
theorem lw_all_tbl {w : Cond} (h : w ∈ lw_all) : w ∈ lw_tbl := (List.mem_filter.mp h).1
theorem lw_self : GoodIn lw_all lw_all := fun w h => ⟨h, good_of_word (List.mem_filter.mp h).2⟩
/-- a class's field words, by their places -/
theorem lw_in (ws : List Cond) (ps : List Nat) (hp : ws = ps.filterMap (fun i => lw_tbl[i]?)) (hg : ws.all goodWord = true) : ∀ w ∈ ws, w ∈ lw_all := by
  intro w h
  have h1 := List.all_eq_true.mp hg w h
  rw [hp] at h
  obtain ⟨i, -, hi⟩ := List.mem_filterMap.mp h
  exact lw_w i hi h1
/-- the words of a contract for the method y with code b, L locals, answer r -/
abbrev ws_ (y : MethodName) (b : ByteArray) (L : Nat) (r : Option FieldType) : List Cond := Cond.code y b L r :: lw_all
theorem lw_meth {y : MethodName} {b : ByteArray} {L : Nat} {r : Option FieldType} (h : Cond.code y b L r ∈ lw_all) : GoodIn lw_all (ws_ y b L r) := by
  intro w hw
  rcases List.mem_cons.mp hw with e | e
  · rw [e]
    exact lw_self _ h
  · exact lw_self _ e
theorem lw_app {a c : List Cond} (ha : ∀ w ∈ a, w ∈ lw_all) (hc : GoodIn lw_all c) : GoodIn lw_all (a ++ c) := by
  intro w hw
  rcases List.mem_append.mp hw with e | e
  · exact lw_self w (ha w e)
  · exact hc w e
/-- what a call through an object asks: cwV n hts (lw_V ..) -/
theorem lw_V {own : String} {idx : Nat} {C : String} {y : MethodName} {b : ByteArray} {L : Nat} {r : Option FieldType} (h1 : Cond.methodLink own idx y ∈ lw_all) (h2 : Cond.instanceMethod y ∈ lw_all) (h3 : Cond.selects C y y ∈ lw_all) (h4 : Cond.initialized C ∈ lw_all) (h5 : Cond.code y b L r ∈ lw_all) : GoodIn lw_all (wsV own idx C y (ws_ y b L r)) := by
  refine lw_app ?_ (lw_meth h5)
  intro w hw
  simp only [List.mem_cons, List.not_mem_nil, or_false] at hw
  rcases hw with e | e | e | e
  · rw [e]; exact h1
  · rw [e]; exact h2
  · rw [e]; exact h3
  · rw [e]; exact h4
/-- what a static call asks: va_cwS n hts (lw_S ..) -/
theorem lw_S {own : String} {idx : Nat} {y : MethodName} {b : ByteArray} {L : Nat} {r : Option FieldType} (h1 : Cond.methodLink own idx y ∈ lw_all) (h2 : Cond.static y ∈ lw_all) (h3 : Cond.initialized y.cls ∈ lw_all) (h4 : Cond.code y b L r ∈ lw_all) : GoodIn lw_all (va_wsS own idx y (ws_ y b L r)) := by
  refine lw_app ?_ (lw_meth h4)
  intro w hw
  simp only [List.mem_cons, List.not_mem_nil, or_false] at hw
  rcases hw with e | e | e
  · rw [e]; exact h1
  · rw [e]; exact h2
  · rw [e]; exact h3
/-- the words of a contract for a method WITH HANDLERS (hh: its table) -/
abbrev wsW_ (y : MethodName) (b : ByteArray) (L : Nat) (r : Option FieldType) (hh : List (Nat × Nat × Nat × Nat)) : List Cond := Cond.codeWith y b L r hh :: lw_all
theorem lw_methW {y : MethodName} {b : ByteArray} {L : Nat} {r : Option FieldType} {hh : List (Nat × Nat × Nat × Nat)} (h : Cond.codeWith y b L r hh ∈ lw_all) : GoodIn lw_all (wsW_ y b L r hh) := by
  intro w hw
  rcases List.mem_cons.mp hw with e | e
  · rw [e]
    exact lw_self _ h
  · exact lw_self _ e
/-- any list of words by their places (lw_in), good -/
theorem lw_good {ws : List Cond} (h : ∀ w ∈ ws, w ∈ lw_all) : GoodIn lw_all ws := fun w hw => lw_self w (h w hw)
/-- what a call of a method with handlers asks: vx_cwVW n hts (lw_VW ..), vx_cwSW n hts (lw_SW ..) -/
theorem lw_VW {own : String} {idx : Nat} {C : String} {y : MethodName} {b : ByteArray} {L : Nat} {r : Option FieldType} {hh : List (Nat × Nat × Nat × Nat)} (h1 : Cond.methodLink own idx y ∈ lw_all) (h2 : Cond.instanceMethod y ∈ lw_all) (h3 : Cond.selects C y y ∈ lw_all) (h4 : Cond.initialized C ∈ lw_all) (h5 : Cond.codeWith y b L r hh ∈ lw_all) : GoodIn lw_all (wsV own idx C y (wsW_ y b L r hh)) := by
  refine lw_app ?_ (lw_methW h5)
  intro w hw
  simp only [List.mem_cons, List.not_mem_nil, or_false] at hw
  rcases hw with e | e | e | e
  · rw [e]; exact h1
  · rw [e]; exact h2
  · rw [e]; exact h3
  · rw [e]; exact h4
theorem lw_SW {own : String} {idx : Nat} {y : MethodName} {b : ByteArray} {L : Nat} {r : Option FieldType} {hh : List (Nat × Nat × Nat × Nat)} (h1 : Cond.methodLink own idx y ∈ lw_all) (h2 : Cond.static y ∈ lw_all) (h3 : Cond.initialized y.cls ∈ lw_all) (h4 : Cond.codeWith y b L r hh ∈ lw_all) : GoodIn lw_all (va_wsS own idx y (wsW_ y b L r hh)) := by
  refine lw_app ?_ (lw_methW h4)
  intro w hw
  simp only [List.mem_cons, List.not_mem_nil, or_false] at hw
  rcases hw with e | e | e
  · rw [e]; exact h1
  · rw [e]; exact h2
  · rw [e]; exact h3
/-- a word by its place in its run of the tables -/
theorem lw_at {r : List Cond} (hr : ∀ w ∈ r, w ∈ lw_tbl) {w : Cond} (i : Nat) (h : r[i]? = some w) : w ∈ lw_tbl := hr w (List.mem_of_getElem? h)
theorem lw_g {w : Cond} (h : w ∈ lw_tbl) (g : goodWord w = true) : w ∈ lw_all := List.mem_filter.mpr ⟨h, g⟩
theorem lw_ms : ∀ w ∈ k2_sels lw_privs, w ∈ lw_tbl := fun w h => show w ∈ (k2_sels lw_privs ++ tables_1) ++ lw_ext from List.mem_append_left _ (show w ∈ k2_sels lw_privs ++ tables_1 from List.mem_append_left _ h)
theorem lw_m1 : ∀ w ∈ tables_1_1, w ∈ lw_tbl := fun w h => show w ∈ (k2_sels lw_privs ++ tables_1) ++ lw_ext from List.mem_append_left _ (show w ∈ k2_sels lw_privs ++ tables_1 from List.mem_append_right (k2_sels lw_privs) (show w ∈ tables_1 from List.mem_append_left _ h))
theorem lw_m2 : ∀ w ∈ tables_1_2, w ∈ lw_tbl := fun w h => show w ∈ (k2_sels lw_privs ++ tables_1) ++ lw_ext from List.mem_append_left _ (show w ∈ k2_sels lw_privs ++ tables_1 from List.mem_append_right (k2_sels lw_privs) (show w ∈ tables_1 from List.mem_append_right _ (List.mem_append_left _ h)))
theorem lw_m3 : ∀ w ∈ tables_1_3, w ∈ lw_tbl := fun w h => show w ∈ (k2_sels lw_privs ++ tables_1) ++ lw_ext from List.mem_append_left _ (show w ∈ k2_sels lw_privs ++ tables_1 from List.mem_append_right (k2_sels lw_privs) (show w ∈ tables_1 from List.mem_append_right _ (List.mem_append_right _ (List.mem_append_left _ h))))
theorem lw_m4 : ∀ w ∈ tables_1_4, w ∈ lw_tbl := fun w h => show w ∈ (k2_sels lw_privs ++ tables_1) ++ lw_ext from List.mem_append_left _ (show w ∈ k2_sels lw_privs ++ tables_1 from List.mem_append_right (k2_sels lw_privs) (show w ∈ tables_1 from List.mem_append_right _ (List.mem_append_right _ (List.mem_append_right _ (List.mem_append_left _ h)))))
theorem lw_m5 : ∀ w ∈ tables_1_5, w ∈ lw_tbl := fun w h => show w ∈ (k2_sels lw_privs ++ tables_1) ++ lw_ext from List.mem_append_left _ (show w ∈ k2_sels lw_privs ++ tables_1 from List.mem_append_right (k2_sels lw_privs) (show w ∈ tables_1 from List.mem_append_right _ (List.mem_append_right _ (List.mem_append_right _ (List.mem_append_right _ (List.mem_append_left _ h))))))
theorem lw_m6 : ∀ w ∈ tables_1_6, w ∈ lw_tbl := fun w h => show w ∈ (k2_sels lw_privs ++ tables_1) ++ lw_ext from List.mem_append_left _ (show w ∈ k2_sels lw_privs ++ tables_1 from List.mem_append_right (k2_sels lw_privs) (show w ∈ tables_1 from List.mem_append_right _ (List.mem_append_right _ (List.mem_append_right _ (List.mem_append_right _ (List.mem_append_right _ (List.mem_append_left _ h)))))))
theorem lw_m7 : ∀ w ∈ tables_1_7, w ∈ lw_tbl := fun w h => show w ∈ (k2_sels lw_privs ++ tables_1) ++ lw_ext from List.mem_append_left _ (show w ∈ k2_sels lw_privs ++ tables_1 from List.mem_append_right (k2_sels lw_privs) (show w ∈ tables_1 from List.mem_append_right _ (List.mem_append_right _ (List.mem_append_right _ (List.mem_append_right _ (List.mem_append_right _ (List.mem_append_right _ (List.mem_append_left _ h))))))))
theorem lw_m8 : ∀ w ∈ tables_1_8, w ∈ lw_tbl := fun w h => show w ∈ (k2_sels lw_privs ++ tables_1) ++ lw_ext from List.mem_append_left _ (show w ∈ k2_sels lw_privs ++ tables_1 from List.mem_append_right (k2_sels lw_privs) (show w ∈ tables_1 from List.mem_append_right _ (List.mem_append_right _ (List.mem_append_right _ (List.mem_append_right _ (List.mem_append_right _ (List.mem_append_right _ (List.mem_append_right _ (List.mem_append_left _ h)))))))))
theorem lw_m9 : ∀ w ∈ tables_1_9, w ∈ lw_tbl := fun w h => show w ∈ (k2_sels lw_privs ++ tables_1) ++ lw_ext from List.mem_append_left _ (show w ∈ k2_sels lw_privs ++ tables_1 from List.mem_append_right (k2_sels lw_privs) (show w ∈ tables_1 from List.mem_append_right _ (List.mem_append_right _ (List.mem_append_right _ (List.mem_append_right _ (List.mem_append_right _ (List.mem_append_right _ (List.mem_append_right _ (List.mem_append_right _ (List.mem_append_left _ h))))))))))
theorem lw_m10 : ∀ w ∈ tables_1_10, w ∈ lw_tbl := fun w h => show w ∈ (k2_sels lw_privs ++ tables_1) ++ lw_ext from List.mem_append_left _ (show w ∈ k2_sels lw_privs ++ tables_1 from List.mem_append_right (k2_sels lw_privs) (show w ∈ tables_1 from List.mem_append_right _ (List.mem_append_right _ (List.mem_append_right _ (List.mem_append_right _ (List.mem_append_right _ (List.mem_append_right _ (List.mem_append_right _ (List.mem_append_right _ (List.mem_append_right _ (List.mem_append_left _ h)))))))))))
theorem lw_m11 : ∀ w ∈ tables_1_11, w ∈ lw_tbl := fun w h => show w ∈ (k2_sels lw_privs ++ tables_1) ++ lw_ext from List.mem_append_left _ (show w ∈ k2_sels lw_privs ++ tables_1 from List.mem_append_right (k2_sels lw_privs) (show w ∈ tables_1 from List.mem_append_right _ (List.mem_append_right _ (List.mem_append_right _ (List.mem_append_right _ (List.mem_append_right _ (List.mem_append_right _ (List.mem_append_right _ (List.mem_append_right _ (List.mem_append_right _ (List.mem_append_right _ h)))))))))))
theorem lw_mx : ∀ w ∈ lw_ext, w ∈ lw_tbl := fun w h => List.mem_append_right _ h
theorem qx0 : (Cond.selects "StarEye$BookReader" ⟨"StarEye$Reader", "readWord", "()V"⟩ ⟨"StarEye$Reader", "readWord", "()V"⟩) ∈ lw_all := lw_g (lw_at lw_mx 0 rfl) rfl
theorem qx1 : (Cond.selects "StarEye$RuleReader" ⟨"StarEye$Reader", "readWord", "()V"⟩ ⟨"StarEye$Reader", "readWord", "()V"⟩) ∈ lw_all := lw_g (lw_at lw_mx 1 rfl) rfl
theorem qx2 : (Cond.selects "StarEye$BookReader" ⟨"StarEye$Reader", "readNumber", "()V"⟩ ⟨"StarEye$Reader", "readNumber", "()V"⟩) ∈ lw_all := lw_g (lw_at lw_mx 2 rfl) rfl
theorem qx3 : (Cond.selects "StarEye$RuleReader" ⟨"StarEye$Reader", "readNumber", "()V"⟩ ⟨"StarEye$Reader", "readNumber", "()V"⟩) ∈ lw_all := lw_g (lw_at lw_mx 3 rfl) rfl
theorem qs0 : (Cond.selects "StarEye" ⟨"StarEye", "bytes", "(I)V"⟩ ⟨"StarEye", "bytes", "(I)V"⟩) ∈ lw_all := lw_g (lw_at lw_ms 0 rfl) rfl
theorem qs1 : (Cond.selects "StarEye" ⟨"StarEye", "isRead", "(LStarEye$Text;)Z"⟩ ⟨"StarEye", "isRead", "(LStarEye$Text;)Z"⟩) ∈ lw_all := lw_g (lw_at lw_ms 1 rfl) rfl
theorem qs2 : (Cond.selects "java/lang/Throwable" ⟨"java/lang/Throwable", "fillInStackTrace", "(I)Ljava/lang/Throwable;"⟩ ⟨"java/lang/Throwable", "fillInStackTrace", "(I)Ljava/lang/Throwable;"⟩) ∈ lw_all := lw_g (lw_at lw_ms 2 rfl) rfl
theorem qs3 : (Cond.selects "StarEye$BookReader" ⟨"StarEye$BookReader", "once", "(I)V"⟩ ⟨"StarEye$BookReader", "once", "(I)V"⟩) ∈ lw_all := lw_g (lw_at lw_ms 3 rfl) rfl
theorem qs4 : (Cond.selects "StarEye$BookReader" ⟨"StarEye$BookReader", "star", "()V"⟩ ⟨"StarEye$BookReader", "star", "()V"⟩) ∈ lw_all := lw_g (lw_at lw_ms 4 rfl) rfl
theorem qs5 : (Cond.selects "java/util/ArrayList" ⟨"java/util/ArrayList", "add", "(Ljava/lang/Object;[Ljava/lang/Object;I)V"⟩ ⟨"java/util/ArrayList", "add", "(Ljava/lang/Object;[Ljava/lang/Object;I)V"⟩) ∈ lw_all := lw_g (lw_at lw_ms 5 rfl) rfl
theorem qs6 : (Cond.selects "java/util/ArrayList" ⟨"java/util/ArrayList", "grow", "()[Ljava/lang/Object;"⟩ ⟨"java/util/ArrayList", "grow", "()[Ljava/lang/Object;"⟩) ∈ lw_all := lw_g (lw_at lw_ms 6 rfl) rfl
theorem qs7 : (Cond.selects "java/util/ArrayList" ⟨"java/util/ArrayList", "grow", "(I)[Ljava/lang/Object;"⟩ ⟨"java/util/ArrayList", "grow", "(I)[Ljava/lang/Object;"⟩) ∈ lw_all := lw_g (lw_at lw_ms 7 rfl) rfl
theorem qs8 : (Cond.selects "StarEye$RuleReader" ⟨"StarEye$RuleReader", "either", "()LStarEye$Part;"⟩ ⟨"StarEye$RuleReader", "either", "()LStarEye$Part;"⟩) ∈ lw_all := lw_g (lw_at lw_ms 8 rfl) rfl
theorem qs9 : (Cond.selects "StarEye$RuleReader" ⟨"StarEye$RuleReader", "both", "()LStarEye$Part;"⟩ ⟨"StarEye$RuleReader", "both", "()LStarEye$Part;"⟩) ∈ lw_all := lw_g (lw_at lw_ms 9 rfl) rfl
theorem qs10 : (Cond.selects "StarEye$RuleReader" ⟨"StarEye$RuleReader", "one", "()LStarEye$Part;"⟩ ⟨"StarEye$RuleReader", "one", "()LStarEye$Part;"⟩) ∈ lw_all := lw_g (lw_at lw_ms 10 rfl) rfl
theorem qs11 : (Cond.selects "StarEye$RuleReader" ⟨"StarEye$RuleReader", "into", "()V"⟩ ⟨"StarEye$RuleReader", "into", "()V"⟩) ∈ lw_all := lw_g (lw_at lw_ms 11 rfl) rfl
theorem qs12 : (Cond.selects "StarEye$RuleReader" ⟨"StarEye$RuleReader", "sum", "()LStarEye$Part;"⟩ ⟨"StarEye$RuleReader", "sum", "()LStarEye$Part;"⟩) ∈ lw_all := lw_g (lw_at lw_ms 12 rfl) rfl
theorem qs13 : (Cond.selects "StarEye$RuleReader" ⟨"StarEye$RuleReader", "unit", "()LStarEye$Part;"⟩ ⟨"StarEye$RuleReader", "unit", "()LStarEye$Part;"⟩) ∈ lw_all := lw_g (lw_at lw_ms 13 rfl) rfl
theorem qs14 : (Cond.selects "StarEye$PictureReader" ⟨"StarEye$PictureReader", "over", "(I)I"⟩ ⟨"StarEye$PictureReader", "over", "(I)I"⟩) ∈ lw_all := lw_g (lw_at lw_ms 14 rfl) rfl
theorem qs15 : (Cond.selects "StarEye" ⟨"StarEye", "forget", "()V"⟩ ⟨"StarEye", "forget", "()V"⟩) ∈ lw_all := lw_g (lw_at lw_ms 15 rfl) rfl
theorem qs16 : (Cond.selects "StarEye$Finder" ⟨"StarEye$Finder", "find", "(I)V"⟩ ⟨"StarEye$Finder", "find", "(I)V"⟩) ∈ lw_all := lw_g (lw_at lw_ms 16 rfl) rfl
theorem qs17 : (Cond.selects "StarEye$Finder" ⟨"StarEye$Finder", "meet", "(II)V"⟩ ⟨"StarEye$Finder", "meet", "(II)V"⟩) ∈ lw_all := lw_g (lw_at lw_ms 17 rfl) rfl
theorem qs18 : (Cond.selects "StarEye$Finder" ⟨"StarEye$Finder", "put", "(LStarEye$Dot;)V"⟩ ⟨"StarEye$Finder", "put", "(LStarEye$Dot;)V"⟩) ∈ lw_all := lw_g (lw_at lw_ms 18 rfl) rfl
theorem qs19 : (Cond.selects "java/util/ArrayList" ⟨"java/util/ArrayList", "rangeCheckForAdd", "(I)V"⟩ ⟨"java/util/ArrayList", "rangeCheckForAdd", "(I)V"⟩) ∈ lw_all := lw_g (lw_at lw_ms 19 rfl) rfl
theorem qs20 : (Cond.selects "java/util/ArrayList" ⟨"java/util/ArrayList", "fastRemove", "([Ljava/lang/Object;I)V"⟩ ⟨"java/util/ArrayList", "fastRemove", "([Ljava/lang/Object;I)V"⟩) ∈ lw_all := lw_g (lw_at lw_ms 20 rfl) rfl
theorem qs21 : (Cond.selects "StarEye" ⟨"StarEye", "at", "(II)LStarEye$Seen;"⟩ ⟨"StarEye", "at", "(II)LStarEye$Seen;"⟩) ∈ lw_all := lw_g (lw_at lw_ms 21 rfl) rfl
theorem qs22 : (Cond.selects "StarEye$Seen" ⟨"StarEye$Seen", "stays", "(LStarEye$Dot;I)Z"⟩ ⟨"StarEye$Seen", "stays", "(LStarEye$Dot;I)Z"⟩) ∈ lw_all := lw_g (lw_at lw_ms 22 rfl) rfl
theorem qs23 : (Cond.selects "StarEye$Namer" ⟨"StarEye$Namer", "go", "(II)V"⟩ ⟨"StarEye$Namer", "go", "(II)V"⟩) ∈ lw_all := lw_g (lw_at lw_ms 23 rfl) rfl
theorem qs24 : (Cond.selects "StarEye$Naming" ⟨"StarEye$Naming", "add", "(LStarEye$Place;LStarEye$Place;)V"⟩ ⟨"StarEye$Naming", "add", "(LStarEye$Place;LStarEye$Place;)V"⟩) ∈ lw_all := lw_g (lw_at lw_ms 24 rfl) rfl
theorem qs25 : (Cond.selects "StarEye$Naming" ⟨"StarEye$Naming", "turn", "(LStarEye$Place;LStarEye$Place;)V"⟩ ⟨"StarEye$Naming", "turn", "(LStarEye$Place;LStarEye$Place;)V"⟩) ∈ lw_all := lw_g (lw_at lw_ms 25 rfl) rfl
theorem qs26 : (Cond.selects "StarEye$Namer" ⟨"StarEye$Namer", "isGood", "(II)Z"⟩ ⟨"StarEye$Namer", "isGood", "(II)Z"⟩) ∈ lw_all := lw_g (lw_at lw_ms 26 rfl) rfl
theorem qs27 : (Cond.selects "StarEye" ⟨"StarEye", "naming", "(III)LStarEye$Naming;"⟩ ⟨"StarEye", "naming", "(III)LStarEye$Naming;"⟩) ∈ lw_all := lw_g (lw_at lw_ms 27 rfl) rfl
theorem qs28 : (Cond.selects "StarEye" ⟨"StarEye", "follow", "(LStarEye$Seen;LStarEye$Seen;II)[I"⟩ ⟨"StarEye", "follow", "(LStarEye$Seen;LStarEye$Seen;II)[I"⟩) ∈ lw_all := lw_g (lw_at lw_ms 28 rfl) rfl
theorem qs29 : (Cond.selects "StarEye" ⟨"StarEye", "pointOf", "(III)LStarEye$Dot;"⟩ ⟨"StarEye", "pointOf", "(III)LStarEye$Dot;"⟩) ∈ lw_all := lw_g (lw_at lw_ms 29 rfl) rfl
theorem qs30 : (Cond.selects "StarEye" ⟨"StarEye", "sees", "(II)J"⟩ ⟨"StarEye", "sees", "(II)J"⟩) ∈ lw_all := lw_g (lw_at lw_ms 30 rfl) rfl
theorem qs31 : (Cond.selects "StarEye" ⟨"StarEye", "trustOf", "(LStarEye$Seen;)I"⟩ ⟨"StarEye", "trustOf", "(LStarEye$Seen;)I"⟩) ∈ lw_all := lw_g (lw_at lw_ms 31 rfl) rfl
theorem qs32 : (Cond.selects "StarEyeModel" ⟨"StarEyeModel", "plain", "()V"⟩ ⟨"StarEyeModel", "plain", "()V"⟩) ∈ lw_all := lw_g (lw_at lw_ms 32 rfl) rfl
theorem qs33 : (Cond.selects "StarEyeModel" ⟨"StarEyeModel", "four", "(I)V"⟩ ⟨"StarEyeModel", "four", "(I)V"⟩) ∈ lw_all := lw_g (lw_at lw_ms 33 rfl) rfl
theorem qs34 : (Cond.selects "StarEyeModel" ⟨"StarEyeModel", "start", "()V"⟩ ⟨"StarEyeModel", "start", "()V"⟩) ∈ lw_all := lw_g (lw_at lw_ms 34 rfl) rfl
theorem qs35 : (Cond.selects "StarEyeModel" ⟨"StarEyeModel", "token", "()V"⟩ ⟨"StarEyeModel", "token", "()V"⟩) ∈ lw_all := lw_g (lw_at lw_ms 35 rfl) rfl
theorem qs36 : (Cond.selects "StarEyeModel" ⟨"StarEyeModel", "here", "(I)I"⟩ ⟨"StarEyeModel", "here", "(I)I"⟩) ∈ lw_all := lw_g (lw_at lw_ms 36 rfl) rfl
theorem qs37 : (Cond.selects "StarEyeModel" ⟨"StarEyeModel", "isSign", "(I)Z"⟩ ⟨"StarEyeModel", "isSign", "(I)Z"⟩) ∈ lw_all := lw_g (lw_at lw_ms 37 rfl) rfl
theorem qs38 : (Cond.selects "StarEyeModel" ⟨"StarEyeModel", "lineOf", "()I"⟩ ⟨"StarEyeModel", "lineOf", "()I"⟩) ∈ lw_all := lw_g (lw_at lw_ms 38 rfl) rfl
theorem qs39 : (Cond.selects "StarEyeModel" ⟨"StarEyeModel", "isWord", "(J)Z"⟩ ⟨"StarEyeModel", "isWord", "(J)Z"⟩) ∈ lw_all := lw_g (lw_at lw_ms 39 rfl) rfl
theorem qs40 : (Cond.selects "StarEyeModel" ⟨"StarEyeModel", "readStar", "()V"⟩ ⟨"StarEyeModel", "readStar", "()V"⟩) ∈ lw_all := lw_g (lw_at lw_ms 40 rfl) rfl
theorem qs41 : (Cond.selects "StarEyeModel" ⟨"StarEyeModel", "isName", "()Z"⟩ ⟨"StarEyeModel", "isName", "()Z"⟩) ∈ lw_all := lw_g (lw_at lw_ms 41 rfl) rfl
theorem qs42 : (Cond.selects "StarEyeModel" ⟨"StarEyeModel", "wrong", "(I)V"⟩ ⟨"StarEyeModel", "wrong", "(I)V"⟩) ∈ lw_all := lw_g (lw_at lw_ms 42 rfl) rfl
theorem qs43 : (Cond.selects "StarEyeModel" ⟨"StarEyeModel", "want", "(J)V"⟩ ⟨"StarEyeModel", "want", "(J)V"⟩) ∈ lw_all := lw_g (lw_at lw_ms 43 rfl) rfl
theorem qs44 : (Cond.selects "StarEyeModel" ⟨"StarEyeModel", "toldNumber", "(II)I"⟩ ⟨"StarEyeModel", "toldNumber", "(II)I"⟩) ∈ lw_all := lw_g (lw_at lw_ms 44 rfl) rfl
theorem qs45 : (Cond.selects "StarEyeModel" ⟨"StarEyeModel", "readTold", "(I)V"⟩ ⟨"StarEyeModel", "readTold", "(I)V"⟩) ∈ lw_all := lw_g (lw_at lw_ms 45 rfl) rfl
theorem qs46 : (Cond.selects "StarEyeModel" ⟨"StarEyeModel", "toldBy", "(JII)I"⟩ ⟨"StarEyeModel", "toldBy", "(JII)I"⟩) ∈ lw_all := lw_g (lw_at lw_ms 46 rfl) rfl
theorem qs47 : (Cond.selects "StarEyeModel" ⟨"StarEyeModel", "signed", "(II)I"⟩ ⟨"StarEyeModel", "signed", "(II)I"⟩) ∈ lw_all := lw_g (lw_at lw_ms 47 rfl) rfl
theorem qs48 : (Cond.selects "StarEyeModel" ⟨"StarEyeModel", "readPicture", "()V"⟩ ⟨"StarEyeModel", "readPicture", "()V"⟩) ∈ lw_all := lw_g (lw_at lw_ms 48 rfl) rfl
theorem qs49 : (Cond.selects "StarEyeModel" ⟨"StarEyeModel", "counts", "(II)Z"⟩ ⟨"StarEyeModel", "counts", "(II)Z"⟩) ∈ lw_all := lw_g (lw_at lw_ms 49 rfl) rfl
theorem qs50 : (Cond.selects "StarEyeModel" ⟨"StarEyeModel", "lookAt", "(II)V"⟩ ⟨"StarEyeModel", "lookAt", "(II)V"⟩) ∈ lw_all := lw_g (lw_at lw_ms 50 rfl) rfl
theorem qs51 : (Cond.selects "StarEyeModel" ⟨"StarEyeModel", "findDots", "(I)V"⟩ ⟨"StarEyeModel", "findDots", "(I)V"⟩) ∈ lw_all := lw_g (lw_at lw_ms 51 rfl) rfl
theorem qs52 : (Cond.selects "StarEyeModel" ⟨"StarEyeModel", "isBright", "(II)Z"⟩ ⟨"StarEyeModel", "isBright", "(II)Z"⟩) ∈ lw_all := lw_g (lw_at lw_ms 52 rfl) rfl
theorem qs53 : (Cond.selects "StarEyeModel" ⟨"StarEyeModel", "spread", "(III)V"⟩ ⟨"StarEyeModel", "spread", "(III)V"⟩) ∈ lw_all := lw_g (lw_at lw_ms 53 rfl) rfl
theorem qs54 : (Cond.selects "StarEyeModel" ⟨"StarEyeModel", "measure", "(II)V"⟩ ⟨"StarEyeModel", "measure", "(II)V"⟩) ∈ lw_all := lw_g (lw_at lw_ms 54 rfl) rfl
theorem qs55 : (Cond.selects "StarEyeModel" ⟨"StarEyeModel", "isAhead", "(II)Z"⟩ ⟨"StarEyeModel", "isAhead", "(II)Z"⟩) ∈ lw_all := lw_g (lw_at lw_ms 55 rfl) rfl
theorem qs56 : (Cond.selects "StarEyeModel" ⟨"StarEyeModel", "pixelOf", "(I)I"⟩ ⟨"StarEyeModel", "pixelOf", "(I)I"⟩) ∈ lw_all := lw_g (lw_at lw_ms 56 rfl) rfl
theorem qs57 : (Cond.selects "StarEyeModel" ⟨"StarEyeModel", "kinds", "(I)I"⟩ ⟨"StarEyeModel", "kinds", "(I)I"⟩) ∈ lw_all := lw_g (lw_at lw_ms 57 rfl) rfl
theorem qs58 : (Cond.selects "StarEyeModel" ⟨"StarEyeModel", "starLength", "(II)I"⟩ ⟨"StarEyeModel", "starLength", "(II)I"⟩) ∈ lw_all := lw_g (lw_at lw_ms 58 rfl) rfl
theorem qs59 : (Cond.selects "StarEyeModel" ⟨"StarEyeModel", "seekNamings", "(II)V"⟩ ⟨"StarEyeModel", "seekNamings", "(II)V"⟩) ∈ lw_all := lw_g (lw_at lw_ms 59 rfl) rfl
theorem qs60 : (Cond.selects "StarEyeModel" ⟨"StarEyeModel", "layLengths", "()V"⟩ ⟨"StarEyeModel", "layLengths", "()V"⟩) ∈ lw_all := lw_g (lw_at lw_ms 60 rfl) rfl
theorem qs61 : (Cond.selects "StarEyeModel" ⟨"StarEyeModel", "pointLength", "(II)I"⟩ ⟨"StarEyeModel", "pointLength", "(II)I"⟩) ∈ lw_all := lw_g (lw_at lw_ms 61 rfl) rfl
theorem qs62 : (Cond.selects "StarEyeModel" ⟨"StarEyeModel", "pointX", "(I)I"⟩ ⟨"StarEyeModel", "pointX", "(I)I"⟩) ∈ lw_all := lw_g (lw_at lw_ms 62 rfl) rfl
theorem qs63 : (Cond.selects "StarEyeModel" ⟨"StarEyeModel", "pointY", "(I)I"⟩ ⟨"StarEyeModel", "pointY", "(I)I"⟩) ∈ lw_all := lw_g (lw_at lw_ms 63 rfl) rfl
theorem qs64 : (Cond.selects "StarEyeModel" ⟨"StarEyeModel", "seekNaming", "(II)V"⟩ ⟨"StarEyeModel", "seekNaming", "(II)V"⟩) ∈ lw_all := lw_g (lw_at lw_ms 64 rfl) rfl
theorem qs65 : (Cond.selects "StarEyeModel" ⟨"StarEyeModel", "unnamed", "(I)I"⟩ ⟨"StarEyeModel", "unnamed", "(I)I"⟩) ∈ lw_all := lw_g (lw_at lw_ms 65 rfl) rfl
theorem qs66 : (Cond.selects "StarEyeModel" ⟨"StarEyeModel", "goes", "(I)Z"⟩ ⟨"StarEyeModel", "goes", "(I)Z"⟩) ∈ lw_all := lw_g (lw_at lw_ms 66 rfl) rfl
theorem qs67 : (Cond.selects "StarEyeModel" ⟨"StarEyeModel", "fit", "(IIII)Z"⟩ ⟨"StarEyeModel", "fit", "(IIII)Z"⟩) ∈ lw_all := lw_g (lw_at lw_ms 67 rfl) rfl
theorem qs68 : (Cond.selects "StarEyeModel" ⟨"StarEyeModel", "lieAlike", "(IIIIII)Z"⟩ ⟨"StarEyeModel", "lieAlike", "(IIIIII)Z"⟩) ∈ lw_all := lw_g (lw_at lw_ms 68 rfl) rfl
theorem qs69 : (Cond.selects "StarEyeModel" ⟨"StarEyeModel", "hasNaming", "(III)Z"⟩ ⟨"StarEyeModel", "hasNaming", "(III)Z"⟩) ∈ lw_all := lw_g (lw_at lw_ms 69 rfl) rfl
theorem qs70 : (Cond.selects "StarEyeModel" ⟨"StarEyeModel", "isNamed", "(II)Z"⟩ ⟨"StarEyeModel", "isNamed", "(II)Z"⟩) ∈ lw_all := lw_g (lw_at lw_ms 70 rfl) rfl
theorem qs71 : (Cond.selects "StarEyeModel" ⟨"StarEyeModel", "seekOdds", "(I)V"⟩ ⟨"StarEyeModel", "seekOdds", "(I)V"⟩) ∈ lw_all := lw_g (lw_at lw_ms 71 rfl) rfl
theorem qs72 : (Cond.selects "StarEyeModel" ⟨"StarEyeModel", "fitting", "(II)I"⟩ ⟨"StarEyeModel", "fitting", "(II)I"⟩) ∈ lw_all := lw_g (lw_at lw_ms 72 rfl) rfl
theorem qs73 : (Cond.selects "StarEyeModel" ⟨"StarEyeModel", "reduce", "(JJ)V"⟩ ⟨"StarEyeModel", "reduce", "(JJ)V"⟩) ∈ lw_all := lw_g (lw_at lw_ms 73 rfl) rfl
theorem qs74 : (Cond.selects "StarEyeModel" ⟨"StarEyeModel", "tells", "()Z"⟩ ⟨"StarEyeModel", "tells", "()Z"⟩) ∈ lw_all := lw_g (lw_at lw_ms 74 rfl) rfl
theorem qs75 : (Cond.selects "StarEyeModel" ⟨"StarEyeModel", "seekTurn", "(I)V"⟩ ⟨"StarEyeModel", "seekTurn", "(I)V"⟩) ∈ lw_all := lw_g (lw_at lw_ms 75 rfl) rfl
theorem qs76 : (Cond.selects "StarEyeModel" ⟨"StarEyeModel", "ownX", "(II)J"⟩ ⟨"StarEyeModel", "ownX", "(II)J"⟩) ∈ lw_all := lw_g (lw_at lw_ms 76 rfl) rfl
theorem qs77 : (Cond.selects "StarEyeModel" ⟨"StarEyeModel", "ownY", "(II)J"⟩ ⟨"StarEyeModel", "ownY", "(II)J"⟩) ∈ lw_all := lw_g (lw_at lw_ms 77 rfl) rfl
theorem qs78 : (Cond.selects "StarEyeModel" ⟨"StarEyeModel", "stretchOf", "(I)J"⟩ ⟨"StarEyeModel", "stretchOf", "(I)J"⟩) ∈ lw_all := lw_g (lw_at lw_ms 78 rfl) rfl
theorem qs79 : (Cond.selects "StarEyeModel" ⟨"StarEyeModel", "seekFollowed", "(IIIII)Z"⟩ ⟨"StarEyeModel", "seekFollowed", "(IIIII)Z"⟩) ∈ lw_all := lw_g (lw_at lw_ms 79 rfl) rfl
theorem qs80 : (Cond.selects "StarEyeModel" ⟨"StarEyeModel", "seekStar", "(III)Z"⟩ ⟨"StarEyeModel", "seekStar", "(III)Z"⟩) ∈ lw_all := lw_g (lw_at lw_ms 80 rfl) rfl
theorem qs81 : (Cond.selects "StarEyeModel" ⟨"StarEyeModel", "seenFrom", "(III)I"⟩ ⟨"StarEyeModel", "seenFrom", "(III)I"⟩) ∈ lw_all := lw_g (lw_at lw_ms 81 rfl) rfl
theorem qs82 : (Cond.selects "StarEyeModel" ⟨"StarEyeModel", "sees", "(III)Z"⟩ ⟨"StarEyeModel", "sees", "(III)Z"⟩) ∈ lw_all := lw_g (lw_at lw_ms 82 rfl) rfl
theorem qs83 : (Cond.selects "StarEyeModel" ⟨"StarEyeModel", "isEnough", "(I)Z"⟩ ⟨"StarEyeModel", "isEnough", "(I)Z"⟩) ∈ lw_all := lw_g (lw_at lw_ms 83 rfl) rfl
theorem qs84 : (Cond.selects "StarEyeModel" ⟨"StarEyeModel", "readRule", "()V"⟩ ⟨"StarEyeModel", "readRule", "()V"⟩) ∈ lw_all := lw_g (lw_at lw_ms 84 rfl) rfl
theorem qs85 : (Cond.selects "StarEyeModel" ⟨"StarEyeModel", "isOpen", "()Z"⟩ ⟨"StarEyeModel", "isOpen", "()Z"⟩) ∈ lw_all := lw_g (lw_at lw_ms 85 rfl) rfl
theorem qs86 : (Cond.selects "StarEyeModel" ⟨"StarEyeModel", "sign", "()I"⟩ ⟨"StarEyeModel", "sign", "()I"⟩) ∈ lw_all := lw_g (lw_at lw_ms 86 rfl) rfl
theorem qs87 : (Cond.selects "StarEyeModel" ⟨"StarEyeModel", "settle", "(I)V"⟩ ⟨"StarEyeModel", "settle", "(I)V"⟩) ∈ lw_all := lw_g (lw_at lw_ms 87 rfl) rfl
theorem qs88 : (Cond.selects "StarEyeModel" ⟨"StarEyeModel", "upper", "()I"⟩ ⟨"StarEyeModel", "upper", "()I"⟩) ∈ lw_all := lw_g (lw_at lw_ms 88 rfl) rfl
theorem qs89 : (Cond.selects "StarEyeModel" ⟨"StarEyeModel", "pop", "()V"⟩ ⟨"StarEyeModel", "pop", "()V"⟩) ∈ lw_all := lw_g (lw_at lw_ms 89 rfl) rfl
theorem qs90 : (Cond.selects "StarEyeModel" ⟨"StarEyeModel", "note", "(II)V"⟩ ⟨"StarEyeModel", "note", "(II)V"⟩) ∈ lw_all := lw_g (lw_at lw_ms 90 rfl) rfl
theorem qs91 : (Cond.selects "StarEyeModel" ⟨"StarEyeModel", "hold", "(I)V"⟩ ⟨"StarEyeModel", "hold", "(I)V"⟩) ∈ lw_all := lw_g (lw_at lw_ms 91 rfl) rfl
theorem qs92 : (Cond.selects "StarEyeModel" ⟨"StarEyeModel", "operand", "(I)I"⟩ ⟨"StarEyeModel", "operand", "(I)I"⟩) ∈ lw_all := lw_g (lw_at lw_ms 92 rfl) rfl
theorem qs93 : (Cond.selects "StarEyeModel" ⟨"StarEyeModel", "known", "()I"⟩ ⟨"StarEyeModel", "known", "()I"⟩) ∈ lw_all := lw_g (lw_at lw_ms 93 rfl) rfl
theorem qs94 : (Cond.selects "StarEyeModel" ⟨"StarEyeModel", "trustOf", "(II)I"⟩ ⟨"StarEyeModel", "trustOf", "(II)I"⟩) ∈ lw_all := lw_g (lw_at lw_ms 94 rfl) rfl
theorem qs95 : (Cond.selects "StarEyeModel" ⟨"StarEyeModel", "holds", "(I)Z"⟩ ⟨"StarEyeModel", "holds", "(I)Z"⟩) ∈ lw_all := lw_g (lw_at lw_ms 95 rfl) rfl
-- ===== end of PART A; then your names; then what follows =====
