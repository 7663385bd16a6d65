-- ===== PART A: goes FIRST, ahead of the names: the tables' words, and 'selects' of the private methods out of them =====
/-- a private method of a class that the tables say can be made, by its rows of tables_1 -/
def lw_okq (q : MethodName × Nat) : Prop := (q.1.cls ≠ "java/lang/invoke/MethodHandle" ∧ q.1.cls ≠ "java/lang/invoke/VarHandle") ∧ Cond.instantiable q.1.cls q.2 ∈ tables_1 ∧ Cond.privateMethod q.1 ∈ tables_1 ∧ Cond.instanceMethod q.1 ∈ tables_1
set_option maxRecDepth 100000
theorem lw_t1 {w : Cond} (h : w ∈ tables_1_1) : w ∈ tables_1 := List.mem_append_left _ h
theorem lw_t2 {w : Cond} (h : w ∈ tables_1_2) : w ∈ tables_1 := List.mem_append_right _ (List.mem_append_left _ h)
theorem lw_t3 {w : Cond} (h : w ∈ tables_1_3) : w ∈ tables_1 := List.mem_append_right _ (List.mem_append_right _ (List.mem_append_left _ h))
theorem lw_t4 {w : Cond} (h : w ∈ tables_1_4) : w ∈ tables_1 := List.mem_append_right _ (List.mem_append_right _ (List.mem_append_right _ (List.mem_append_left _ h)))
theorem lw_t5 {w : Cond} (h : w ∈ tables_1_5) : w ∈ tables_1 := List.mem_append_right _ (List.mem_append_right _ (List.mem_append_right _ (List.mem_append_right _ (List.mem_append_left _ h))))
theorem lw_t6 {w : Cond} (h : w ∈ tables_1_6) : w ∈ tables_1 := List.mem_append_right _ (List.mem_append_right _ (List.mem_append_right _ (List.mem_append_right _ (List.mem_append_right _ (List.mem_append_left _ h)))))
theorem lw_t7 {w : Cond} (h : w ∈ tables_1_7) : w ∈ tables_1 := List.mem_append_right _ (List.mem_append_right _ (List.mem_append_right _ (List.mem_append_right _ (List.mem_append_right _ (List.mem_append_right _ (List.mem_append_left _ h))))))
theorem lw_t8 {w : Cond} (h : w ∈ tables_1_8) : w ∈ tables_1 := List.mem_append_right _ (List.mem_append_right _ (List.mem_append_right _ (List.mem_append_right _ (List.mem_append_right _ (List.mem_append_right _ (List.mem_append_right _ h))))))
theorem lw_p0 : lw_okq (⟨"MiddleSheet", "feeds", "(I)V"⟩, 29) := ⟨⟨by decide +kernel, by decide +kernel⟩, lw_t1 (List.mem_of_getElem? (i := 34) rfl), lw_t1 (List.mem_of_getElem? (i := 226) rfl), lw_t1 (List.mem_of_getElem? (i := 227) rfl)⟩
theorem lw_p1 : lw_okq (⟨"MiddleSheet$Reader", "next", "()V"⟩, 11) := ⟨⟨by decide +kernel, by decide +kernel⟩, lw_t1 (List.mem_of_getElem? (i := 42) rfl), lw_t2 (List.mem_of_getElem? (i := 12) rfl), lw_t2 (List.mem_of_getElem? (i := 13) rfl)⟩
theorem lw_p2 : lw_okq (⟨"MiddleSheet$Reader", "wrong", "()LMiddleSheet$Fault;"⟩, 11) := ⟨⟨by decide +kernel, by decide +kernel⟩, lw_t1 (List.mem_of_getElem? (i := 42) rfl), lw_t2 (List.mem_of_getElem? (i := 22) rfl), lw_t2 (List.mem_of_getElem? (i := 23) rfl)⟩
theorem lw_p3 : lw_okq (⟨"java/lang/Throwable", "fillInStackTrace", "(I)Ljava/lang/Throwable;"⟩, 6) := ⟨⟨by decide +kernel, by decide +kernel⟩, lw_t2 (List.mem_of_getElem? (i := 62) rfl), lw_t2 (List.mem_of_getElem? (i := 60) rfl), lw_t2 (List.mem_of_getElem? (i := 61) rfl)⟩
theorem lw_p4 : lw_okq (⟨"MiddleSheet$Reader", "tells", "()V"⟩, 11) := ⟨⟨by decide +kernel, by decide +kernel⟩, lw_t1 (List.mem_of_getElem? (i := 42) rfl), lw_t2 (List.mem_of_getElem? (i := 94) rfl), lw_t2 (List.mem_of_getElem? (i := 95) rfl)⟩
theorem lw_p5 : lw_okq (⟨"MiddleSheet$Reader", "word", "(Ljava/lang/String;)I"⟩, 11) := ⟨⟨by decide +kernel, by decide +kernel⟩, lw_t1 (List.mem_of_getElem? (i := 42) rfl), lw_t2 (List.mem_of_getElem? (i := 99) rfl), lw_t2 (List.mem_of_getElem? (i := 100) rfl)⟩
theorem lw_p6 : lw_okq (⟨"MiddleSheet$Reader", "isOver", "()Z"⟩, 11) := ⟨⟨by decide +kernel, by decide +kernel⟩, lw_t1 (List.mem_of_getElem? (i := 42) rfl), lw_t2 (List.mem_of_getElem? (i := 113) rfl), lw_t2 (List.mem_of_getElem? (i := 114) rfl)⟩
theorem lw_p7 : lw_okq (⟨"MiddleSheet$Reader", "needsWord", "(Ljava/lang/String;)I"⟩, 11) := ⟨⟨by decide +kernel, by decide +kernel⟩, lw_t1 (List.mem_of_getElem? (i := 42) rfl), lw_t2 (List.mem_of_getElem? (i := 215) rfl), lw_t2 (List.mem_of_getElem? (i := 216) rfl)⟩
theorem lw_p8 : lw_okq (⟨"MiddleSheet$Reader", "number", "(II)I"⟩, 11) := ⟨⟨by decide +kernel, by decide +kernel⟩, lw_t1 (List.mem_of_getElem? (i := 42) rfl), lw_t2 (List.mem_of_getElem? (i := 219) rfl), lw_t2 (List.mem_of_getElem? (i := 220) rfl)⟩
theorem lw_p9 : lw_okq (⟨"MiddleSheet$Reader", "voter", "()V"⟩, 11) := ⟨⟨by decide +kernel, by decide +kernel⟩, lw_t1 (List.mem_of_getElem? (i := 42) rfl), lw_t2 (List.mem_of_getElem? (i := 225) rfl), lw_t2 (List.mem_of_getElem? (i := 226) rfl)⟩
theorem lw_p10 : lw_okq (⟨"MiddleSheet$Reader", "made", "(III)LMiddleSheet$Voter;"⟩, 11) := ⟨⟨by decide +kernel, by decide +kernel⟩, lw_t1 (List.mem_of_getElem? (i := 42) rfl), lw_t2 (List.mem_of_getElem? (i := 230) rfl), lw_t2 (List.mem_of_getElem? (i := 231) rfl)⟩
theorem lw_p11 : lw_okq (⟨"java/util/ArrayList", "add", "(Ljava/lang/Object;[Ljava/lang/Object;I)V"⟩, 3) := ⟨⟨by decide +kernel, by decide +kernel⟩, lw_t1 (List.mem_of_getElem? (i := 48) rfl), lw_t3 (List.mem_of_getElem? (i := 64) rfl), lw_t3 (List.mem_of_getElem? (i := 65) rfl)⟩
theorem lw_p12 : lw_okq (⟨"java/util/ArrayList", "grow", "()[Ljava/lang/Object;"⟩, 3) := ⟨⟨by decide +kernel, by decide +kernel⟩, lw_t1 (List.mem_of_getElem? (i := 48) rfl), lw_t3 (List.mem_of_getElem? (i := 68) rfl), lw_t3 (List.mem_of_getElem? (i := 69) rfl)⟩
theorem lw_p13 : lw_okq (⟨"java/util/ArrayList", "grow", "(I)[Ljava/lang/Object;"⟩, 3) := ⟨⟨by decide +kernel, by decide +kernel⟩, lw_t1 (List.mem_of_getElem? (i := 48) rfl), lw_t3 (List.mem_of_getElem? (i := 72) rfl), lw_t3 (List.mem_of_getElem? (i := 73) rfl)⟩
theorem lw_p14 : lw_okq (⟨"MiddleSheet$Reader", "win", "()V"⟩, 11) := ⟨⟨by decide +kernel, by decide +kernel⟩, lw_t1 (List.mem_of_getElem? (i := 42) rfl), lw_t3 (List.mem_of_getElem? (i := 132) rfl), lw_t3 (List.mem_of_getElem? (i := 133) rfl)⟩
theorem lw_p15 : lw_okq (⟨"MiddleSheet$Reader", "needs", "(I)V"⟩, 11) := ⟨⟨by decide +kernel, by decide +kernel⟩, lw_t1 (List.mem_of_getElem? (i := 42) rfl), lw_t3 (List.mem_of_getElem? (i := 137) rfl), lw_t3 (List.mem_of_getElem? (i := 138) rfl)⟩
def lw_privs_1 : List (MethodName × Nat) := [(⟨"MiddleSheet", "feeds", "(I)V"⟩, 29), (⟨"MiddleSheet$Reader", "next", "()V"⟩, 11), (⟨"MiddleSheet$Reader", "wrong", "()LMiddleSheet$Fault;"⟩, 11), (⟨"java/lang/Throwable", "fillInStackTrace", "(I)Ljava/lang/Throwable;"⟩, 6), (⟨"MiddleSheet$Reader", "tells", "()V"⟩, 11), (⟨"MiddleSheet$Reader", "word", "(Ljava/lang/String;)I"⟩, 11), (⟨"MiddleSheet$Reader", "isOver", "()Z"⟩, 11), (⟨"MiddleSheet$Reader", "needsWord", "(Ljava/lang/String;)I"⟩, 11), (⟨"MiddleSheet$Reader", "number", "(II)I"⟩, 11), (⟨"MiddleSheet$Reader", "voter", "()V"⟩, 11), (⟨"MiddleSheet$Reader", "made", "(III)LMiddleSheet$Voter;"⟩, 11), (⟨"java/util/ArrayList", "add", "(Ljava/lang/Object;[Ljava/lang/Object;I)V"⟩, 3), (⟨"java/util/ArrayList", "grow", "()[Ljava/lang/Object;"⟩, 3), (⟨"java/util/ArrayList", "grow", "(I)[Ljava/lang/Object;"⟩, 3), (⟨"MiddleSheet$Reader", "win", "()V"⟩, 11), (⟨"MiddleSheet$Reader", "needs", "(I)V"⟩, 11)]
theorem lw_r1 : ∀ q ∈ lw_privs_1, lw_okq q := List.forall_mem_cons.mpr ⟨lw_p0, List.forall_mem_cons.mpr ⟨lw_p1, List.forall_mem_cons.mpr ⟨lw_p2, List.forall_mem_cons.mpr ⟨lw_p3, List.forall_mem_cons.mpr ⟨lw_p4, List.forall_mem_cons.mpr ⟨lw_p5, List.forall_mem_cons.mpr ⟨lw_p6, List.forall_mem_cons.mpr ⟨lw_p7, List.forall_mem_cons.mpr ⟨lw_p8, List.forall_mem_cons.mpr ⟨lw_p9, List.forall_mem_cons.mpr ⟨lw_p10, List.forall_mem_cons.mpr ⟨lw_p11, List.forall_mem_cons.mpr ⟨lw_p12, List.forall_mem_cons.mpr ⟨lw_p13, List.forall_mem_cons.mpr ⟨lw_p14, List.forall_mem_cons.mpr ⟨lw_p15, fun _ h => absurd h List.not_mem_nil⟩⟩⟩⟩⟩⟩⟩⟩⟩⟩⟩⟩⟩⟩⟩⟩
theorem lw_p16 : lw_okq (⟨"MiddleSheet", "stale", "()V"⟩, 29) := ⟨⟨by decide +kernel, by decide +kernel⟩, lw_t1 (List.mem_of_getElem? (i := 34) rfl), lw_t3 (List.mem_of_getElem? (i := 167) rfl), lw_t3 (List.mem_of_getElem? (i := 168) rfl)⟩
theorem lw_p17 : lw_okq (⟨"MiddleSheet", "voterAt", "(I)LMiddleSheet$Voter;"⟩, 29) := ⟨⟨by decide +kernel, by decide +kernel⟩, lw_t1 (List.mem_of_getElem? (i := 34) rfl), lw_t3 (List.mem_of_getElem? (i := 175) rfl), lw_t3 (List.mem_of_getElem? (i := 176) rfl)⟩
theorem lw_p18 : lw_okq (⟨"MiddleSheet", "placeAt", "(I)LMiddleSheet$Place;"⟩, 29) := ⟨⟨by decide +kernel, by decide +kernel⟩, lw_t1 (List.mem_of_getElem? (i := 34) rfl), lw_t3 (List.mem_of_getElem? (i := 198) rfl), lw_t3 (List.mem_of_getElem? (i := 199) rfl)⟩
theorem lw_p19 : lw_okq (⟨"MiddleSheet", "votesOf", "(LMiddleSheet$Place;LMiddleSheet$Place;)I"⟩, 29) := ⟨⟨by decide +kernel, by decide +kernel⟩, lw_t1 (List.mem_of_getElem? (i := 34) rfl), lw_t4 (List.mem_of_getElem? (i := 14) rfl), lw_t4 (List.mem_of_getElem? (i := 15) rfl)⟩
theorem lw_p20 : lw_okq (⟨"MiddleSheet", "votesFor", "(IIII)I"⟩, 29) := ⟨⟨by decide +kernel, by decide +kernel⟩, lw_t1 (List.mem_of_getElem? (i := 34) rfl), lw_t4 (List.mem_of_getElem? (i := 18) rfl), lw_t4 (List.mem_of_getElem? (i := 19) rfl)⟩
theorem lw_p21 : lw_okq (⟨"MiddleSheet", "above", "(LMiddleSheet$Place;LMiddleSheet$Place;)Z"⟩, 29) := ⟨⟨by decide +kernel, by decide +kernel⟩, lw_t1 (List.mem_of_getElem? (i := 34) rfl), lw_t4 (List.mem_of_getElem? (i := 38) rfl), lw_t4 (List.mem_of_getElem? (i := 39) rfl)⟩
theorem lw_p22 : lw_okq (⟨"MiddleSheet", "isBeaten", "(IIII)Z"⟩, 29) := ⟨⟨by decide +kernel, by decide +kernel⟩, lw_t1 (List.mem_of_getElem? (i := 34) rfl), lw_t4 (List.mem_of_getElem? (i := 42) rfl), lw_t4 (List.mem_of_getElem? (i := 43) rfl)⟩
theorem lw_p23 : lw_okq (⟨"MiddleSheet", "findLines", "()V"⟩, 29) := ⟨⟨by decide +kernel, by decide +kernel⟩, lw_t1 (List.mem_of_getElem? (i := 34) rfl), lw_t4 (List.mem_of_getElem? (i := 58) rfl), lw_t4 (List.mem_of_getElem? (i := 59) rfl)⟩
theorem lw_p24 : lw_okq (⟨"MiddleSheet", "halves", "(LMiddleSheet$Line;)Z"⟩, 29) := ⟨⟨by decide +kernel, by decide +kernel⟩, lw_t1 (List.mem_of_getElem? (i := 34) rfl), lw_t4 (List.mem_of_getElem? (i := 98) rfl), lw_t4 (List.mem_of_getElem? (i := 99) rfl)⟩
theorem lw_p25 : lw_okq (⟨"java/util/ArrayList", "rangeCheckForAdd", "(I)V"⟩, 3) := ⟨⟨by decide +kernel, by decide +kernel⟩, lw_t1 (List.mem_of_getElem? (i := 48) rfl), lw_t4 (List.mem_of_getElem? (i := 113) rfl), lw_t4 (List.mem_of_getElem? (i := 114) rfl)⟩
theorem lw_p26 : lw_okq (⟨"MiddleSheet", "findMiddles", "()V"⟩, 29) := ⟨⟨by decide +kernel, by decide +kernel⟩, lw_t1 (List.mem_of_getElem? (i := 34) rfl), lw_t4 (List.mem_of_getElem? (i := 123) rfl), lw_t4 (List.mem_of_getElem? (i := 124) rfl)⟩
theorem lw_p27 : lw_okq (⟨"MiddleSheet", "comes", "(LMiddleSheet$Spot;)V"⟩, 29) := ⟨⟨by decide +kernel, by decide +kernel⟩, lw_t1 (List.mem_of_getElem? (i := 34) rfl), lw_t4 (List.mem_of_getElem? (i := 147) rfl), lw_t4 (List.mem_of_getElem? (i := 148) rfl)⟩
theorem lw_p28 : lw_okq (⟨"MiddleSheet", "isMiddle", "(LMiddleSheet$Spot;)Z"⟩, 29) := ⟨⟨by decide +kernel, by decide +kernel⟩, lw_t1 (List.mem_of_getElem? (i := 34) rfl), lw_t4 (List.mem_of_getElem? (i := 159) rfl), lw_t4 (List.mem_of_getElem? (i := 160) rfl)⟩
theorem lw_p29 : lw_okq (⟨"MiddleSheet", "proves", "()V"⟩, 29) := ⟨⟨by decide +kernel, by decide +kernel⟩, lw_t1 (List.mem_of_getElem? (i := 34) rfl), lw_t4 (List.mem_of_getElem? (i := 173) rfl), lw_t4 (List.mem_of_getElem? (i := 174) rfl)⟩
theorem lw_p30 : lw_okq (⟨"MiddleSheet", "findRound", "()V"⟩, 29) := ⟨⟨by decide +kernel, by decide +kernel⟩, lw_t1 (List.mem_of_getElem? (i := 34) rfl), lw_t4 (List.mem_of_getElem? (i := 189) rfl), lw_t4 (List.mem_of_getElem? (i := 190) rfl)⟩
theorem lw_p31 : lw_okq (⟨"MiddleSheet", "findPieces", "(II)V"⟩, 29) := ⟨⟨by decide +kernel, by decide +kernel⟩, lw_t1 (List.mem_of_getElem? (i := 34) rfl), lw_t4 (List.mem_of_getElem? (i := 199) rfl), lw_t4 (List.mem_of_getElem? (i := 200) rfl)⟩
def lw_privs_2 : List (MethodName × Nat) := [(⟨"MiddleSheet", "stale", "()V"⟩, 29), (⟨"MiddleSheet", "voterAt", "(I)LMiddleSheet$Voter;"⟩, 29), (⟨"MiddleSheet", "placeAt", "(I)LMiddleSheet$Place;"⟩, 29), (⟨"MiddleSheet", "votesOf", "(LMiddleSheet$Place;LMiddleSheet$Place;)I"⟩, 29), (⟨"MiddleSheet", "votesFor", "(IIII)I"⟩, 29), (⟨"MiddleSheet", "above", "(LMiddleSheet$Place;LMiddleSheet$Place;)Z"⟩, 29), (⟨"MiddleSheet", "isBeaten", "(IIII)Z"⟩, 29), (⟨"MiddleSheet", "findLines", "()V"⟩, 29), (⟨"MiddleSheet", "halves", "(LMiddleSheet$Line;)Z"⟩, 29), (⟨"java/util/ArrayList", "rangeCheckForAdd", "(I)V"⟩, 3), (⟨"MiddleSheet", "findMiddles", "()V"⟩, 29), (⟨"MiddleSheet", "comes", "(LMiddleSheet$Spot;)V"⟩, 29), (⟨"MiddleSheet", "isMiddle", "(LMiddleSheet$Spot;)Z"⟩, 29), (⟨"MiddleSheet", "proves", "()V"⟩, 29), (⟨"MiddleSheet", "findRound", "()V"⟩, 29), (⟨"MiddleSheet", "findPieces", "(II)V"⟩, 29)]
theorem lw_r2 : ∀ q ∈ lw_privs_2, lw_okq q := List.forall_mem_cons.mpr ⟨lw_p16, List.forall_mem_cons.mpr ⟨lw_p17, List.forall_mem_cons.mpr ⟨lw_p18, List.forall_mem_cons.mpr ⟨lw_p19, List.forall_mem_cons.mpr ⟨lw_p20, List.forall_mem_cons.mpr ⟨lw_p21, List.forall_mem_cons.mpr ⟨lw_p22, List.forall_mem_cons.mpr ⟨lw_p23, List.forall_mem_cons.mpr ⟨lw_p24, List.forall_mem_cons.mpr ⟨lw_p25, List.forall_mem_cons.mpr ⟨lw_p26, List.forall_mem_cons.mpr ⟨lw_p27, List.forall_mem_cons.mpr ⟨lw_p28, List.forall_mem_cons.mpr ⟨lw_p29, List.forall_mem_cons.mpr ⟨lw_p30, List.forall_mem_cons.mpr ⟨lw_p31, fun _ h => absurd h List.not_mem_nil⟩⟩⟩⟩⟩⟩⟩⟩⟩⟩⟩⟩⟩⟩⟩⟩
theorem lw_p32 : lw_okq (⟨"MiddleSheet", "fills", "(I)V"⟩, 29) := ⟨⟨by decide +kernel, by decide +kernel⟩, lw_t1 (List.mem_of_getElem? (i := 34) rfl), lw_t4 (List.mem_of_getElem? (i := 203) rfl), lw_t4 (List.mem_of_getElem? (i := 204) rfl)⟩
theorem lw_p33 : lw_okq (⟨"MiddleSheet", "spreads", "(III)I"⟩, 29) := ⟨⟨by decide +kernel, by decide +kernel⟩, lw_t1 (List.mem_of_getElem? (i := 34) rfl), lw_t4 (List.mem_of_getElem? (i := 207) rfl), lw_t4 (List.mem_of_getElem? (i := 208) rfl)⟩
theorem lw_p34 : lw_okq (⟨"MiddleSheet", "findSteps", "(I)V"⟩, 29) := ⟨⟨by decide +kernel, by decide +kernel⟩, lw_t1 (List.mem_of_getElem? (i := 34) rfl), lw_t4 (List.mem_of_getElem? (i := 219) rfl), lw_t4 (List.mem_of_getElem? (i := 220) rfl)⟩
theorem lw_p35 : lw_okq (⟨"MiddleSheet", "reaches", "(I)Z"⟩, 29) := ⟨⟨by decide +kernel, by decide +kernel⟩, lw_t1 (List.mem_of_getElem? (i := 34) rfl), lw_t4 (List.mem_of_getElem? (i := 227) rfl), lw_t4 (List.mem_of_getElem? (i := 228) rfl)⟩
theorem lw_p36 : lw_okq (⟨"MiddleSheet", "isOpen", "(I)Z"⟩, 29) := ⟨⟨by decide +kernel, by decide +kernel⟩, lw_t1 (List.mem_of_getElem? (i := 34) rfl), lw_t4 (List.mem_of_getElem? (i := 231) rfl), lw_t4 (List.mem_of_getElem? (i := 232) rfl)⟩
theorem lw_p37 : lw_okq (⟨"MiddleSheet", "covers", "(LMiddleSheet$Place;LMiddleSheet$Place;)Z"⟩, 29) := ⟨⟨by decide +kernel, by decide +kernel⟩, lw_t1 (List.mem_of_getElem? (i := 34) rfl), lw_t4 (List.mem_of_getElem? (i := 235) rfl), lw_t4 (List.mem_of_getElem? (i := 236) rfl)⟩
theorem lw_p38 : lw_okq (⟨"MiddleSheet", "gains", "()I"⟩, 29) := ⟨⟨by decide +kernel, by decide +kernel⟩, lw_t1 (List.mem_of_getElem? (i := 34) rfl), lw_t5 (List.mem_of_getElem? (i := 7) rfl), lw_t5 (List.mem_of_getElem? (i := 8) rfl)⟩
theorem lw_p39 : lw_okq (⟨"MiddleSheet", "findLots", "()Z"⟩, 29) := ⟨⟨by decide +kernel, by decide +kernel⟩, lw_t1 (List.mem_of_getElem? (i := 34) rfl), lw_t5 (List.mem_of_getElem? (i := 16) rfl), lw_t5 (List.mem_of_getElem? (i := 17) rfl)⟩
theorem lw_p40 : lw_okq (⟨"MiddleSheet", "isLots", "(II)Z"⟩, 29) := ⟨⟨by decide +kernel, by decide +kernel⟩, lw_t1 (List.mem_of_getElem? (i := 34) rfl), lw_t5 (List.mem_of_getElem? (i := 26) rfl), lw_t5 (List.mem_of_getElem? (i := 27) rfl)⟩
theorem lw_p41 : lw_okq (⟨"MiddleSheet", "hasShares", "(I)Z"⟩, 29) := ⟨⟨by decide +kernel, by decide +kernel⟩, lw_t1 (List.mem_of_getElem? (i := 34) rfl), lw_t5 (List.mem_of_getElem? (i := 30) rfl), lw_t5 (List.mem_of_getElem? (i := 31) rfl)⟩
theorem lw_p42 : lw_okq (⟨"MiddleSheet", "pairs", "(I)J"⟩, 29) := ⟨⟨by decide +kernel, by decide +kernel⟩, lw_t1 (List.mem_of_getElem? (i := 34) rfl), lw_t5 (List.mem_of_getElem? (i := 34) rfl), lw_t5 (List.mem_of_getElem? (i := 35) rfl)⟩
theorem lw_p43 : lw_okq (⟨"MiddleSheet", "needOf", "(I)I"⟩, 29) := ⟨⟨by decide +kernel, by decide +kernel⟩, lw_t1 (List.mem_of_getElem? (i := 34) rfl), lw_t5 (List.mem_of_getElem? (i := 46) rfl), lw_t5 (List.mem_of_getElem? (i := 47) rfl)⟩
theorem lw_p44 : lw_okq (⟨"MiddleSheet", "isUnbeaten", "(I)Z"⟩, 29) := ⟨⟨by decide +kernel, by decide +kernel⟩, lw_t1 (List.mem_of_getElem? (i := 34) rfl), lw_t5 (List.mem_of_getElem? (i := 58) rfl), lw_t5 (List.mem_of_getElem? (i := 59) rfl)⟩
theorem lw_p45 : lw_okq (⟨"MiddleSheet", "surely", "(LMiddleSheet$Voter;ILMiddleSheet$Place;LMiddleSheet$Place;)I"⟩, 29) := ⟨⟨by decide +kernel, by decide +kernel⟩, lw_t1 (List.mem_of_getElem? (i := 34) rfl), lw_t5 (List.mem_of_getElem? (i := 83) rfl), lw_t5 (List.mem_of_getElem? (i := 84) rfl)⟩
theorem lw_p46 : lw_okq (⟨"MiddleSheet", "pairMany", "()I"⟩, 29) := ⟨⟨by decide +kernel, by decide +kernel⟩, lw_t1 (List.mem_of_getElem? (i := 34) rfl), lw_t5 (List.mem_of_getElem? (i := 94) rfl), lw_t5 (List.mem_of_getElem? (i := 95) rfl)⟩
theorem lw_p47 : lw_okq (⟨"MiddleSheet", "puts", "(III)V"⟩, 29) := ⟨⟨by decide +kernel, by decide +kernel⟩, lw_t1 (List.mem_of_getElem? (i := 34) rfl), lw_t5 (List.mem_of_getElem? (i := 137) rfl), lw_t5 (List.mem_of_getElem? (i := 138) rfl)⟩
def lw_privs_3 : List (MethodName × Nat) := [(⟨"MiddleSheet", "fills", "(I)V"⟩, 29), (⟨"MiddleSheet", "spreads", "(III)I"⟩, 29), (⟨"MiddleSheet", "findSteps", "(I)V"⟩, 29), (⟨"MiddleSheet", "reaches", "(I)Z"⟩, 29), (⟨"MiddleSheet", "isOpen", "(I)Z"⟩, 29), (⟨"MiddleSheet", "covers", "(LMiddleSheet$Place;LMiddleSheet$Place;)Z"⟩, 29), (⟨"MiddleSheet", "gains", "()I"⟩, 29), (⟨"MiddleSheet", "findLots", "()Z"⟩, 29), (⟨"MiddleSheet", "isLots", "(II)Z"⟩, 29), (⟨"MiddleSheet", "hasShares", "(I)Z"⟩, 29), (⟨"MiddleSheet", "pairs", "(I)J"⟩, 29), (⟨"MiddleSheet", "needOf", "(I)I"⟩, 29), (⟨"MiddleSheet", "isUnbeaten", "(I)Z"⟩, 29), (⟨"MiddleSheet", "surely", "(LMiddleSheet$Voter;ILMiddleSheet$Place;LMiddleSheet$Place;)I"⟩, 29), (⟨"MiddleSheet", "pairMany", "()I"⟩, 29), (⟨"MiddleSheet", "puts", "(III)V"⟩, 29)]
theorem lw_r3 : ∀ q ∈ lw_privs_3, lw_okq q := List.forall_mem_cons.mpr ⟨lw_p32, List.forall_mem_cons.mpr ⟨lw_p33, List.forall_mem_cons.mpr ⟨lw_p34, List.forall_mem_cons.mpr ⟨lw_p35, List.forall_mem_cons.mpr ⟨lw_p36, List.forall_mem_cons.mpr ⟨lw_p37, List.forall_mem_cons.mpr ⟨lw_p38, List.forall_mem_cons.mpr ⟨lw_p39, List.forall_mem_cons.mpr ⟨lw_p40, List.forall_mem_cons.mpr ⟨lw_p41, List.forall_mem_cons.mpr ⟨lw_p42, List.forall_mem_cons.mpr ⟨lw_p43, List.forall_mem_cons.mpr ⟨lw_p44, List.forall_mem_cons.mpr ⟨lw_p45, List.forall_mem_cons.mpr ⟨lw_p46, List.forall_mem_cons.mpr ⟨lw_p47, fun _ h => absurd h List.not_mem_nil⟩⟩⟩⟩⟩⟩⟩⟩⟩⟩⟩⟩⟩⟩⟩⟩
theorem lw_p48 : lw_okq (⟨"java/util/ArrayList", "fastRemove", "([Ljava/lang/Object;I)V"⟩, 3) := ⟨⟨by decide +kernel, by decide +kernel⟩, lw_t1 (List.mem_of_getElem? (i := 48) rfl), lw_t5 (List.mem_of_getElem? (i := 149) rfl), lw_t5 (List.mem_of_getElem? (i := 150) rfl)⟩
theorem lw_p49 : lw_okq (⟨"MiddleSheetModel", "feeds", "(I)V"⟩, 49) := ⟨⟨by decide +kernel, by decide +kernel⟩, lw_t5 (List.mem_of_getElem? (i := 161) rfl), lw_t6 (List.mem_of_getElem? (i := 88) rfl), lw_t6 (List.mem_of_getElem? (i := 89) rfl)⟩
theorem lw_p50 : lw_okq (⟨"MiddleSheetModel", "reads", "()V"⟩, 49) := ⟨⟨by decide +kernel, by decide +kernel⟩, lw_t5 (List.mem_of_getElem? (i := 161) rfl), lw_t6 (List.mem_of_getElem? (i := 103) rfl), lw_t6 (List.mem_of_getElem? (i := 104) rfl)⟩
theorem lw_p51 : lw_okq (⟨"MiddleSheetModel", "skips", "()V"⟩, 49) := ⟨⟨by decide +kernel, by decide +kernel⟩, lw_t5 (List.mem_of_getElem? (i := 161) rfl), lw_t6 (List.mem_of_getElem? (i := 107) rfl), lw_t6 (List.mem_of_getElem? (i := 108) rfl)⟩
theorem lw_p52 : lw_okq (⟨"MiddleSheetModel", "told", "()Z"⟩, 49) := ⟨⟨by decide +kernel, by decide +kernel⟩, lw_t5 (List.mem_of_getElem? (i := 161) rfl), lw_t6 (List.mem_of_getElem? (i := 117) rfl), lw_t6 (List.mem_of_getElem? (i := 118) rfl)⟩
theorem lw_p53 : lw_okq (⟨"MiddleSheetModel", "isWord", "(Ljava/lang/String;)Z"⟩, 49) := ⟨⟨by decide +kernel, by decide +kernel⟩, lw_t5 (List.mem_of_getElem? (i := 161) rfl), lw_t6 (List.mem_of_getElem? (i := 122) rfl), lw_t6 (List.mem_of_getElem? (i := 123) rfl)⟩
theorem lw_p54 : lw_okq (⟨"MiddleSheetModel", "passes", "(Z)Z"⟩, 49) := ⟨⟨by decide +kernel, by decide +kernel⟩, lw_t5 (List.mem_of_getElem? (i := 161) rfl), lw_t6 (List.mem_of_getElem? (i := 128) rfl), lw_t6 (List.mem_of_getElem? (i := 129) rfl)⟩
theorem lw_p55 : lw_okq (⟨"MiddleSheetModel", "near", "()Z"⟩, 49) := ⟨⟨by decide +kernel, by decide +kernel⟩, lw_t5 (List.mem_of_getElem? (i := 161) rfl), lw_t6 (List.mem_of_getElem? (i := 132) rfl), lw_t6 (List.mem_of_getElem? (i := 133) rfl)⟩
theorem lw_p56 : lw_okq (⟨"MiddleSheetModel", "isSign", "(I)Z"⟩, 49) := ⟨⟨by decide +kernel, by decide +kernel⟩, lw_t5 (List.mem_of_getElem? (i := 161) rfl), lw_t6 (List.mem_of_getElem? (i := 136) rfl), lw_t6 (List.mem_of_getElem? (i := 137) rfl)⟩
theorem lw_p57 : lw_okq (⟨"MiddleSheetModel", "stretch", "()Z"⟩, 49) := ⟨⟨by decide +kernel, by decide +kernel⟩, lw_t5 (List.mem_of_getElem? (i := 161) rfl), lw_t6 (List.mem_of_getElem? (i := 141) rfl), lw_t6 (List.mem_of_getElem? (i := 142) rfl)⟩
theorem lw_p58 : lw_okq (⟨"MiddleSheetModel", "number", "(II)Z"⟩, 49) := ⟨⟨by decide +kernel, by decide +kernel⟩, lw_t5 (List.mem_of_getElem? (i := 161) rfl), lw_t6 (List.mem_of_getElem? (i := 145) rfl), lw_t6 (List.mem_of_getElem? (i := 146) rfl)⟩
theorem lw_p59 : lw_okq (⟨"MiddleSheetModel", "voterRead", "()Z"⟩, 49) := ⟨⟨by decide +kernel, by decide +kernel⟩, lw_t5 (List.mem_of_getElem? (i := 161) rfl), lw_t6 (List.mem_of_getElem? (i := 150) rfl), lw_t6 (List.mem_of_getElem? (i := 151) rfl)⟩
theorem lw_p60 : lw_okq (⟨"MiddleSheetModel", "placeRead", "()Z"⟩, 49) := ⟨⟨by decide +kernel, by decide +kernel⟩, lw_t5 (List.mem_of_getElem? (i := 161) rfl), lw_t6 (List.mem_of_getElem? (i := 156) rfl), lw_t6 (List.mem_of_getElem? (i := 157) rfl)⟩
theorem lw_p61 : lw_okq (⟨"MiddleSheetModel", "winRead", "()Z"⟩, 49) := ⟨⟨by decide +kernel, by decide +kernel⟩, lw_t5 (List.mem_of_getElem? (i := 161) rfl), lw_t6 (List.mem_of_getElem? (i := 161) rfl), lw_t6 (List.mem_of_getElem? (i := 162) rfl)⟩
theorem lw_p62 : lw_okq (⟨"MiddleSheetModel", "voters", "()I"⟩, 49) := ⟨⟨by decide +kernel, by decide +kernel⟩, lw_t5 (List.mem_of_getElem? (i := 161) rfl), lw_t6 (List.mem_of_getElem? (i := 174) rfl), lw_t6 (List.mem_of_getElem? (i := 175) rfl)⟩
theorem lw_p63 : lw_okq (⟨"MiddleSheetModel", "isVoter", "(I)Z"⟩, 49) := ⟨⟨by decide +kernel, by decide +kernel⟩, lw_t5 (List.mem_of_getElem? (i := 161) rfl), lw_t6 (List.mem_of_getElem? (i := 182) rfl), lw_t6 (List.mem_of_getElem? (i := 183) rfl)⟩
def lw_privs_4 : List (MethodName × Nat) := [(⟨"java/util/ArrayList", "fastRemove", "([Ljava/lang/Object;I)V"⟩, 3), (⟨"MiddleSheetModel", "feeds", "(I)V"⟩, 49), (⟨"MiddleSheetModel", "reads", "()V"⟩, 49), (⟨"MiddleSheetModel", "skips", "()V"⟩, 49), (⟨"MiddleSheetModel", "told", "()Z"⟩, 49), (⟨"MiddleSheetModel", "isWord", "(Ljava/lang/String;)Z"⟩, 49), (⟨"MiddleSheetModel", "passes", "(Z)Z"⟩, 49), (⟨"MiddleSheetModel", "near", "()Z"⟩, 49), (⟨"MiddleSheetModel", "isSign", "(I)Z"⟩, 49), (⟨"MiddleSheetModel", "stretch", "()Z"⟩, 49), (⟨"MiddleSheetModel", "number", "(II)Z"⟩, 49), (⟨"MiddleSheetModel", "voterRead", "()Z"⟩, 49), (⟨"MiddleSheetModel", "placeRead", "()Z"⟩, 49), (⟨"MiddleSheetModel", "winRead", "()Z"⟩, 49), (⟨"MiddleSheetModel", "voters", "()I"⟩, 49), (⟨"MiddleSheetModel", "isVoter", "(I)Z"⟩, 49)]
theorem lw_r4 : ∀ q ∈ lw_privs_4, lw_okq q := List.forall_mem_cons.mpr ⟨lw_p48, List.forall_mem_cons.mpr ⟨lw_p49, List.forall_mem_cons.mpr ⟨lw_p50, List.forall_mem_cons.mpr ⟨lw_p51, List.forall_mem_cons.mpr ⟨lw_p52, List.forall_mem_cons.mpr ⟨lw_p53, List.forall_mem_cons.mpr ⟨lw_p54, List.forall_mem_cons.mpr ⟨lw_p55, List.forall_mem_cons.mpr ⟨lw_p56, List.forall_mem_cons.mpr ⟨lw_p57, List.forall_mem_cons.mpr ⟨lw_p58, List.forall_mem_cons.mpr ⟨lw_p59, List.forall_mem_cons.mpr ⟨lw_p60, List.forall_mem_cons.mpr ⟨lw_p61, List.forall_mem_cons.mpr ⟨lw_p62, List.forall_mem_cons.mpr ⟨lw_p63, fun _ h => absurd h List.not_mem_nil⟩⟩⟩⟩⟩⟩⟩⟩⟩⟩⟩⟩⟩⟩⟩⟩
theorem lw_p64 : lw_okq (⟨"MiddleSheetModel", "isPlace", "(I)Z"⟩, 49) := ⟨⟨by decide +kernel, by decide +kernel⟩, lw_t5 (List.mem_of_getElem? (i := 161) rfl), lw_t6 (List.mem_of_getElem? (i := 190) rfl), lw_t6 (List.mem_of_getElem? (i := 191) rfl)⟩
theorem lw_p65 : lw_okq (⟨"MiddleSheetModel", "places", "()I"⟩, 49) := ⟨⟨by decide +kernel, by decide +kernel⟩, lw_t5 (List.mem_of_getElem? (i := 161) rfl), lw_t6 (List.mem_of_getElem? (i := 194) rfl), lw_t6 (List.mem_of_getElem? (i := 195) rfl)⟩
theorem lw_p66 : lw_okq (⟨"MiddleSheetModel", "wayOf", "(III)I"⟩, 49) := ⟨⟨by decide +kernel, by decide +kernel⟩, lw_t5 (List.mem_of_getElem? (i := 161) rfl), lw_t6 (List.mem_of_getElem? (i := 210) rfl), lw_t6 (List.mem_of_getElem? (i := 211) rfl)⟩
theorem lw_p67 : lw_okq (⟨"MiddleSheetModel", "wayFrom", "(IIIII)I"⟩, 49) := ⟨⟨by decide +kernel, by decide +kernel⟩, lw_t5 (List.mem_of_getElem? (i := 161) rfl), lw_t6 (List.mem_of_getElem? (i := 214) rfl), lw_t6 (List.mem_of_getElem? (i := 215) rfl)⟩
theorem lw_p68 : lw_okq (⟨"MiddleSheetModel", "votesOf", "(II)I"⟩, 49) := ⟨⟨by decide +kernel, by decide +kernel⟩, lw_t5 (List.mem_of_getElem? (i := 161) rfl), lw_t6 (List.mem_of_getElem? (i := 223) rfl), lw_t6 (List.mem_of_getElem? (i := 224) rfl)⟩
theorem lw_p69 : lw_okq (⟨"MiddleSheetModel", "forOf", "(IIII)I"⟩, 49) := ⟨⟨by decide +kernel, by decide +kernel⟩, lw_t5 (List.mem_of_getElem? (i := 161) rfl), lw_t6 (List.mem_of_getElem? (i := 227) rfl), lw_t6 (List.mem_of_getElem? (i := 228) rfl)⟩
theorem lw_p70 : lw_okq (⟨"MiddleSheetModel", "beatsOf", "(II)Z"⟩, 49) := ⟨⟨by decide +kernel, by decide +kernel⟩, lw_t5 (List.mem_of_getElem? (i := 161) rfl), lw_t6 (List.mem_of_getElem? (i := 235) rfl), lw_t6 (List.mem_of_getElem? (i := 236) rfl)⟩
theorem lw_p71 : lw_okq (⟨"MiddleSheetModel", "beatsAt", "(IIII)Z"⟩, 49) := ⟨⟨by decide +kernel, by decide +kernel⟩, lw_t5 (List.mem_of_getElem? (i := 161) rfl), lw_t6 (List.mem_of_getElem? (i := 239) rfl), lw_t7 (List.mem_of_getElem? (i := 0) rfl)⟩
theorem lw_p72 : lw_okq (⟨"MiddleSheetModel", "isWon", "(II)Z"⟩, 49) := ⟨⟨by decide +kernel, by decide +kernel⟩, lw_t5 (List.mem_of_getElem? (i := 161) rfl), lw_t7 (List.mem_of_getElem? (i := 3) rfl), lw_t7 (List.mem_of_getElem? (i := 4) rfl)⟩
theorem lw_p73 : lw_okq (⟨"MiddleSheetModel", "total", "()I"⟩, 49) := ⟨⟨by decide +kernel, by decide +kernel⟩, lw_t5 (List.mem_of_getElem? (i := 161) rfl), lw_t7 (List.mem_of_getElem? (i := 7) rfl), lw_t7 (List.mem_of_getElem? (i := 8) rfl)⟩
theorem lw_p74 : lw_okq (⟨"MiddleSheetModel", "knows", "()V"⟩, 49) := ⟨⟨by decide +kernel, by decide +kernel⟩, lw_t5 (List.mem_of_getElem? (i := 161) rfl), lw_t7 (List.mem_of_getElem? (i := 20) rfl), lw_t7 (List.mem_of_getElem? (i := 21) rfl)⟩
theorem lw_p75 : lw_okq (⟨"MiddleSheetModel", "through", "(II)V"⟩, 49) := ⟨⟨by decide +kernel, by decide +kernel⟩, lw_t5 (List.mem_of_getElem? (i := 161) rfl), lw_t7 (List.mem_of_getElem? (i := 24) rfl), lw_t7 (List.mem_of_getElem? (i := 25) rfl)⟩
theorem lw_p76 : lw_okq (⟨"MiddleSheetModel", "halves", "(III)Z"⟩, 49) := ⟨⟨by decide +kernel, by decide +kernel⟩, lw_t5 (List.mem_of_getElem? (i := 161) rfl), lw_t7 (List.mem_of_getElem? (i := 31) rfl), lw_t7 (List.mem_of_getElem? (i := 32) rfl)⟩
theorem lw_p77 : lw_okq (⟨"MiddleSheetModel", "addsLine", "(III)V"⟩, 49) := ⟨⟨by decide +kernel, by decide +kernel⟩, lw_t5 (List.mem_of_getElem? (i := 161) rfl), lw_t7 (List.mem_of_getElem? (i := 35) rfl), lw_t7 (List.mem_of_getElem? (i := 36) rfl)⟩
theorem lw_p78 : lw_okq (⟨"MiddleSheetModel", "isAhead", "(IIII)Z"⟩, 49) := ⟨⟨by decide +kernel, by decide +kernel⟩, lw_t5 (List.mem_of_getElem? (i := 161) rfl), lw_t7 (List.mem_of_getElem? (i := 39) rfl), lw_t7 (List.mem_of_getElem? (i := 40) rfl)⟩
theorem lw_p79 : lw_okq (⟨"MiddleSheetModel", "findsMiddles", "()V"⟩, 49) := ⟨⟨by decide +kernel, by decide +kernel⟩, lw_t5 (List.mem_of_getElem? (i := 161) rfl), lw_t7 (List.mem_of_getElem? (i := 43) rfl), lw_t7 (List.mem_of_getElem? (i := 44) rfl)⟩
def lw_privs_5 : List (MethodName × Nat) := [(⟨"MiddleSheetModel", "isPlace", "(I)Z"⟩, 49), (⟨"MiddleSheetModel", "places", "()I"⟩, 49), (⟨"MiddleSheetModel", "wayOf", "(III)I"⟩, 49), (⟨"MiddleSheetModel", "wayFrom", "(IIIII)I"⟩, 49), (⟨"MiddleSheetModel", "votesOf", "(II)I"⟩, 49), (⟨"MiddleSheetModel", "forOf", "(IIII)I"⟩, 49), (⟨"MiddleSheetModel", "beatsOf", "(II)Z"⟩, 49), (⟨"MiddleSheetModel", "beatsAt", "(IIII)Z"⟩, 49), (⟨"MiddleSheetModel", "isWon", "(II)Z"⟩, 49), (⟨"MiddleSheetModel", "total", "()I"⟩, 49), (⟨"MiddleSheetModel", "knows", "()V"⟩, 49), (⟨"MiddleSheetModel", "through", "(II)V"⟩, 49), (⟨"MiddleSheetModel", "halves", "(III)Z"⟩, 49), (⟨"MiddleSheetModel", "addsLine", "(III)V"⟩, 49), (⟨"MiddleSheetModel", "isAhead", "(IIII)Z"⟩, 49), (⟨"MiddleSheetModel", "findsMiddles", "()V"⟩, 49)]
theorem lw_r5 : ∀ q ∈ lw_privs_5, lw_okq q := List.forall_mem_cons.mpr ⟨lw_p64, List.forall_mem_cons.mpr ⟨lw_p65, List.forall_mem_cons.mpr ⟨lw_p66, List.forall_mem_cons.mpr ⟨lw_p67, List.forall_mem_cons.mpr ⟨lw_p68, List.forall_mem_cons.mpr ⟨lw_p69, List.forall_mem_cons.mpr ⟨lw_p70, List.forall_mem_cons.mpr ⟨lw_p71, List.forall_mem_cons.mpr ⟨lw_p72, List.forall_mem_cons.mpr ⟨lw_p73, List.forall_mem_cons.mpr ⟨lw_p74, List.forall_mem_cons.mpr ⟨lw_p75, List.forall_mem_cons.mpr ⟨lw_p76, List.forall_mem_cons.mpr ⟨lw_p77, List.forall_mem_cons.mpr ⟨lw_p78, List.forall_mem_cons.mpr ⟨lw_p79, fun _ h => absurd h List.not_mem_nil⟩⟩⟩⟩⟩⟩⟩⟩⟩⟩⟩⟩⟩⟩⟩⟩
theorem lw_p80 : lw_okq (⟨"MiddleSheetModel", "addsMiddle", "(JJJ)V"⟩, 49) := ⟨⟨by decide +kernel, by decide +kernel⟩, lw_t5 (List.mem_of_getElem? (i := 161) rfl), lw_t7 (List.mem_of_getElem? (i := 47) rfl), lw_t7 (List.mem_of_getElem? (i := 48) rfl)⟩
theorem lw_p81 : lw_okq (⟨"MiddleSheetModel", "isMiddle", "(JJJ)Z"⟩, 49) := ⟨⟨by decide +kernel, by decide +kernel⟩, lw_t5 (List.mem_of_getElem? (i := 161) rfl), lw_t7 (List.mem_of_getElem? (i := 51) rfl), lw_t7 (List.mem_of_getElem? (i := 52) rfl)⟩
theorem lw_p82 : lw_okq (⟨"MiddleSheetModel", "isBehind", "(IJJJ)Z"⟩, 49) := ⟨⟨by decide +kernel, by decide +kernel⟩, lw_t5 (List.mem_of_getElem? (i := 161) rfl), lw_t7 (List.mem_of_getElem? (i := 55) rfl), lw_t7 (List.mem_of_getElem? (i := 56) rfl)⟩
theorem lw_p83 : lw_okq (⟨"MiddleSheetModel", "meet", "(III)Z"⟩, 49) := ⟨⟨by decide +kernel, by decide +kernel⟩, lw_t5 (List.mem_of_getElem? (i := 161) rfl), lw_t7 (List.mem_of_getElem? (i := 69) rfl), lw_t7 (List.mem_of_getElem? (i := 70) rfl)⟩
theorem lw_p84 : lw_okq (⟨"MiddleSheetModel", "far", "(II)V"⟩, 49) := ⟨⟨by decide +kernel, by decide +kernel⟩, lw_t5 (List.mem_of_getElem? (i := 161) rfl), lw_t7 (List.mem_of_getElem? (i := 78) rfl), lw_t7 (List.mem_of_getElem? (i := 79) rfl)⟩
theorem lw_p85 : lw_okq (⟨"MiddleSheetModel", "finds", "(II)V"⟩, 49) := ⟨⟨by decide +kernel, by decide +kernel⟩, lw_t5 (List.mem_of_getElem? (i := 161) rfl), lw_t7 (List.mem_of_getElem? (i := 86) rfl), lw_t7 (List.mem_of_getElem? (i := 87) rfl)⟩
theorem lw_p86 : lw_okq (⟨"MiddleSheetModel", "floods", "(II)V"⟩, 49) := ⟨⟨by decide +kernel, by decide +kernel⟩, lw_t5 (List.mem_of_getElem? (i := 161) rfl), lw_t7 (List.mem_of_getElem? (i := 90) rfl), lw_t7 (List.mem_of_getElem? (i := 91) rfl)⟩
theorem lw_p87 : lw_okq (⟨"MiddleSheetModel", "leads", "(I)V"⟩, 49) := ⟨⟨by decide +kernel, by decide +kernel⟩, lw_t5 (List.mem_of_getElem? (i := 161) rfl), lw_t7 (List.mem_of_getElem? (i := 102) rfl), lw_t7 (List.mem_of_getElem? (i := 103) rfl)⟩
theorem lw_p88 : lw_okq (⟨"MiddleSheetModel", "isReached", "(I)Z"⟩, 49) := ⟨⟨by decide +kernel, by decide +kernel⟩, lw_t5 (List.mem_of_getElem? (i := 161) rfl), lw_t7 (List.mem_of_getElem? (i := 110) rfl), lw_t7 (List.mem_of_getElem? (i := 111) rfl)⟩
theorem lw_p89 : lw_okq (⟨"MiddleSheetModel", "isOpen", "(I)Z"⟩, 49) := ⟨⟨by decide +kernel, by decide +kernel⟩, lw_t5 (List.mem_of_getElem? (i := 161) rfl), lw_t7 (List.mem_of_getElem? (i := 114) rfl), lw_t7 (List.mem_of_getElem? (i := 115) rfl)⟩
theorem lw_p90 : lw_okq (⟨"MiddleSheetModel", "covers", "(II)Z"⟩, 49) := ⟨⟨by decide +kernel, by decide +kernel⟩, lw_t5 (List.mem_of_getElem? (i := 161) rfl), lw_t7 (List.mem_of_getElem? (i := 118) rfl), lw_t7 (List.mem_of_getElem? (i := 119) rfl)⟩
theorem lw_p91 : lw_okq (⟨"MiddleSheetModel", "chosen", "()I"⟩, 49) := ⟨⟨by decide +kernel, by decide +kernel⟩, lw_t5 (List.mem_of_getElem? (i := 161) rfl), lw_t7 (List.mem_of_getElem? (i := 130) rfl), lw_t7 (List.mem_of_getElem? (i := 131) rfl)⟩
theorem lw_p92 : lw_okq (⟨"MiddleSheetModel", "gain", "(II)I"⟩, 49) := ⟨⟨by decide +kernel, by decide +kernel⟩, lw_t5 (List.mem_of_getElem? (i := 161) rfl), lw_t7 (List.mem_of_getElem? (i := 134) rfl), lw_t7 (List.mem_of_getElem? (i := 135) rfl)⟩
theorem lw_p93 : lw_okq (⟨"MiddleSheetModel", "findsLots", "()Z"⟩, 49) := ⟨⟨by decide +kernel, by decide +kernel⟩, lw_t5 (List.mem_of_getElem? (i := 161) rfl), lw_t7 (List.mem_of_getElem? (i := 143) rfl), lw_t7 (List.mem_of_getElem? (i := 144) rfl)⟩
theorem lw_p94 : lw_okq (⟨"MiddleSheetModel", "isLot", "(I)Z"⟩, 49) := ⟨⟨by decide +kernel, by decide +kernel⟩, lw_t5 (List.mem_of_getElem? (i := 161) rfl), lw_t7 (List.mem_of_getElem? (i := 148) rfl), lw_t7 (List.mem_of_getElem? (i := 149) rfl)⟩
theorem lw_p95 : lw_okq (⟨"MiddleSheetModel", "coupled", "(I)J"⟩, 49) := ⟨⟨by decide +kernel, by decide +kernel⟩, lw_t5 (List.mem_of_getElem? (i := 161) rfl), lw_t7 (List.mem_of_getElem? (i := 152) rfl), lw_t7 (List.mem_of_getElem? (i := 153) rfl)⟩
def lw_privs_6 : List (MethodName × Nat) := [(⟨"MiddleSheetModel", "addsMiddle", "(JJJ)V"⟩, 49), (⟨"MiddleSheetModel", "isMiddle", "(JJJ)Z"⟩, 49), (⟨"MiddleSheetModel", "isBehind", "(IJJJ)Z"⟩, 49), (⟨"MiddleSheetModel", "meet", "(III)Z"⟩, 49), (⟨"MiddleSheetModel", "far", "(II)V"⟩, 49), (⟨"MiddleSheetModel", "finds", "(II)V"⟩, 49), (⟨"MiddleSheetModel", "floods", "(II)V"⟩, 49), (⟨"MiddleSheetModel", "leads", "(I)V"⟩, 49), (⟨"MiddleSheetModel", "isReached", "(I)Z"⟩, 49), (⟨"MiddleSheetModel", "isOpen", "(I)Z"⟩, 49), (⟨"MiddleSheetModel", "covers", "(II)Z"⟩, 49), (⟨"MiddleSheetModel", "chosen", "()I"⟩, 49), (⟨"MiddleSheetModel", "gain", "(II)I"⟩, 49), (⟨"MiddleSheetModel", "findsLots", "()Z"⟩, 49), (⟨"MiddleSheetModel", "isLot", "(I)Z"⟩, 49), (⟨"MiddleSheetModel", "coupled", "(I)J"⟩, 49)]
theorem lw_r6 : ∀ q ∈ lw_privs_6, lw_okq q := List.forall_mem_cons.mpr ⟨lw_p80, List.forall_mem_cons.mpr ⟨lw_p81, List.forall_mem_cons.mpr ⟨lw_p82, List.forall_mem_cons.mpr ⟨lw_p83, List.forall_mem_cons.mpr ⟨lw_p84, List.forall_mem_cons.mpr ⟨lw_p85, List.forall_mem_cons.mpr ⟨lw_p86, List.forall_mem_cons.mpr ⟨lw_p87, List.forall_mem_cons.mpr ⟨lw_p88, List.forall_mem_cons.mpr ⟨lw_p89, List.forall_mem_cons.mpr ⟨lw_p90, List.forall_mem_cons.mpr ⟨lw_p91, List.forall_mem_cons.mpr ⟨lw_p92, List.forall_mem_cons.mpr ⟨lw_p93, List.forall_mem_cons.mpr ⟨lw_p94, List.forall_mem_cons.mpr ⟨lw_p95, fun _ h => absurd h List.not_mem_nil⟩⟩⟩⟩⟩⟩⟩⟩⟩⟩⟩⟩⟩⟩⟩⟩
theorem lw_p96 : lw_okq (⟨"MiddleSheetModel", "needOf", "(I)I"⟩, 49) := ⟨⟨by decide +kernel, by decide +kernel⟩, lw_t5 (List.mem_of_getElem? (i := 161) rfl), lw_t7 (List.mem_of_getElem? (i := 161) rfl), lw_t7 (List.mem_of_getElem? (i := 162) rfl)⟩
theorem lw_p97 : lw_okq (⟨"MiddleSheetModel", "isUnbeaten", "(I)Z"⟩, 49) := ⟨⟨by decide +kernel, by decide +kernel⟩, lw_t5 (List.mem_of_getElem? (i := 161) rfl), lw_t7 (List.mem_of_getElem? (i := 173) rfl), lw_t7 (List.mem_of_getElem? (i := 174) rfl)⟩
theorem lw_p98 : lw_okq (⟨"MiddleSheetModel", "joins", "(II)Z"⟩, 49) := ⟨⟨by decide +kernel, by decide +kernel⟩, lw_t5 (List.mem_of_getElem? (i := 161) rfl), lw_t7 (List.mem_of_getElem? (i := 186) rfl), lw_t7 (List.mem_of_getElem? (i := 187) rfl)⟩
theorem lw_p99 : lw_okq (⟨"MiddleSheetModel", "asks", "(III)V"⟩, 49) := ⟨⟨by decide +kernel, by decide +kernel⟩, lw_t5 (List.mem_of_getElem? (i := 161) rfl), lw_t7 (List.mem_of_getElem? (i := 195) rfl), lw_t7 (List.mem_of_getElem? (i := 196) rfl)⟩
theorem lw_p100 : lw_okq (⟨"MiddleSheetModel", "sure", "(IIII)I"⟩, 49) := ⟨⟨by decide +kernel, by decide +kernel⟩, lw_t5 (List.mem_of_getElem? (i := 161) rfl), lw_t7 (List.mem_of_getElem? (i := 199) rfl), lw_t7 (List.mem_of_getElem? (i := 200) rfl)⟩
theorem lw_p101 : lw_okq (⟨"MiddleSheetModel", "pairs", "()I"⟩, 49) := ⟨⟨by decide +kernel, by decide +kernel⟩, lw_t5 (List.mem_of_getElem? (i := 161) rfl), lw_t7 (List.mem_of_getElem? (i := 207) rfl), lw_t7 (List.mem_of_getElem? (i := 208) rfl)⟩
def lw_privs_7 : List (MethodName × Nat) := [(⟨"MiddleSheetModel", "needOf", "(I)I"⟩, 49), (⟨"MiddleSheetModel", "isUnbeaten", "(I)Z"⟩, 49), (⟨"MiddleSheetModel", "joins", "(II)Z"⟩, 49), (⟨"MiddleSheetModel", "asks", "(III)V"⟩, 49), (⟨"MiddleSheetModel", "sure", "(IIII)I"⟩, 49), (⟨"MiddleSheetModel", "pairs", "()I"⟩, 49)]
theorem lw_r7 : ∀ q ∈ lw_privs_7, lw_okq q := List.forall_mem_cons.mpr ⟨lw_p96, List.forall_mem_cons.mpr ⟨lw_p97, List.forall_mem_cons.mpr ⟨lw_p98, List.forall_mem_cons.mpr ⟨lw_p99, List.forall_mem_cons.mpr ⟨lw_p100, List.forall_mem_cons.mpr ⟨lw_p101, fun _ h => absurd h List.not_mem_nil⟩⟩⟩⟩⟩⟩
def lw_privs : List (MethodName × Nat) := lw_privs_1 ++ (lw_privs_2 ++ (lw_privs_3 ++ (lw_privs_4 ++ (lw_privs_5 ++ (lw_privs_6 ++ (lw_privs_7))))))
def lw_tbl : List Cond := k2_sels lw_privs ++ tables_1
theorem lw_privs_ok : ∀ q ∈ lw_privs, lw_okq q := by
  show ∀ q ∈ lw_privs_1 ++ (lw_privs_2 ++ (lw_privs_3 ++ (lw_privs_4 ++ (lw_privs_5 ++ (lw_privs_6 ++ (lw_privs_7)))))), lw_okq q
  exact List.forall_mem_append.mpr ⟨lw_r1, List.forall_mem_append.mpr ⟨lw_r2, List.forall_mem_append.mpr ⟨lw_r3, List.forall_mem_append.mpr ⟨lw_r4, List.forall_mem_append.mpr ⟨lw_r5, List.forall_mem_append.mpr ⟨lw_r6, lw_r7⟩⟩⟩⟩⟩⟩
-- ===== ONE list of words for every method: the tables' words that hold all through a run =====
def lw_all : List Cond := lw_tbl.filter goodWord
/-- a word of the tables by its place: claim/WORDS.tsv -/
theorem lw_w {w : Cond} (i : Nat) (h : lw_tbl[i]? = some w) (g : goodWord w = true) : w ∈ lw_all := List.mem_filter.mpr ⟨List.mem_of_getElem? h, g⟩
theorem lw_all_tbl {w : Cond} (h : w ∈ lw_all) : w ∈ lw_tbl := (List.mem_filter.mp h).1
theorem lw_self : GoodIn lw_all lw_all := fun w h => ⟨h, good_of_word (List.mem_filter.mp h).2⟩
/-- a class's field words, by their places -/
theorem lw_in (ws : List Cond) (ps : List Nat) (hp : ws = ps.filterMap (fun i => lw_tbl[i]?)) (hg : ws.all goodWord = true) : ∀ w ∈ ws, w ∈ lw_all := by
  intro w h
  have h1 := List.all_eq_true.mp hg w h
  rw [hp] at h
  obtain ⟨i, -, hi⟩ := List.mem_filterMap.mp h
  exact lw_w i hi h1
/-- the words of a contract for the method y with code b, L locals, answer r -/
abbrev ws_ (y : MethodName) (b : ByteArray) (L : Nat) (r : Option FieldType) : List Cond := Cond.code y b L r :: lw_all
theorem lw_meth {y : MethodName} {b : ByteArray} {L : Nat} {r : Option FieldType} (h : Cond.code y b L r ∈ lw_all) : GoodIn lw_all (ws_ y b L r) := by
  intro w hw
  rcases List.mem_cons.mp hw with e | e
  · rw [e]
    exact lw_self _ h
  · exact lw_self _ e
theorem lw_app {a c : List Cond} (ha : ∀ w ∈ a, w ∈ lw_all) (hc : GoodIn lw_all c) : GoodIn lw_all (a ++ c) := by
  intro w hw
  rcases List.mem_append.mp hw with e | e
  · exact lw_self w (ha w e)
  · exact hc w e
/-- what a call through an object asks: cwV n hts (lw_V ..) -/
theorem lw_V {own : String} {idx : Nat} {C : String} {y : MethodName} {b : ByteArray} {L : Nat} {r : Option FieldType} (h1 : Cond.methodLink own idx y ∈ lw_all) (h2 : Cond.instanceMethod y ∈ lw_all) (h3 : Cond.selects C y y ∈ lw_all) (h4 : Cond.initialized C ∈ lw_all) (h5 : Cond.code y b L r ∈ lw_all) : GoodIn lw_all (wsV own idx C y (ws_ y b L r)) := by
  refine lw_app ?_ (lw_meth h5)
  intro w hw
  simp only [List.mem_cons, List.not_mem_nil, or_false] at hw
  rcases hw with e | e | e | e
  · rw [e]; exact h1
  · rw [e]; exact h2
  · rw [e]; exact h3
  · rw [e]; exact h4
/-- what a static call asks: va_cwS n hts (lw_S ..) -/
theorem lw_S {own : String} {idx : Nat} {y : MethodName} {b : ByteArray} {L : Nat} {r : Option FieldType} (h1 : Cond.methodLink own idx y ∈ lw_all) (h2 : Cond.static y ∈ lw_all) (h3 : Cond.initialized y.cls ∈ lw_all) (h4 : Cond.code y b L r ∈ lw_all) : GoodIn lw_all (va_wsS own idx y (ws_ y b L r)) := by
  refine lw_app ?_ (lw_meth h4)
  intro w hw
  simp only [List.mem_cons, List.not_mem_nil, or_false] at hw
  rcases hw with e | e | e
  · rw [e]; exact h1
  · rw [e]; exact h2
  · rw [e]; exact h3
/-- the words of a contract for a method WITH HANDLERS (hh: its table) -/
abbrev wsW_ (y : MethodName) (b : ByteArray) (L : Nat) (r : Option FieldType) (hh : List (Nat × Nat × Nat × Nat)) : List Cond := Cond.codeWith y b L r hh :: lw_all
theorem lw_methW {y : MethodName} {b : ByteArray} {L : Nat} {r : Option FieldType} {hh : List (Nat × Nat × Nat × Nat)} (h : Cond.codeWith y b L r hh ∈ lw_all) : GoodIn lw_all (wsW_ y b L r hh) := by
  intro w hw
  rcases List.mem_cons.mp hw with e | e
  · rw [e]
    exact lw_self _ h
  · exact lw_self _ e
/-- any list of words by their places (lw_in), good -/
theorem lw_good {ws : List Cond} (h : ∀ w ∈ ws, w ∈ lw_all) : GoodIn lw_all ws := fun w hw => lw_self w (h w hw)
/-- what a call of a method with handlers asks: vx_cwVW n hts (lw_VW ..), vx_cwSW n hts (lw_SW ..) -/
theorem lw_VW {own : String} {idx : Nat} {C : String} {y : MethodName} {b : ByteArray} {L : Nat} {r : Option FieldType} {hh : List (Nat × Nat × Nat × Nat)} (h1 : Cond.methodLink own idx y ∈ lw_all) (h2 : Cond.instanceMethod y ∈ lw_all) (h3 : Cond.selects C y y ∈ lw_all) (h4 : Cond.initialized C ∈ lw_all) (h5 : Cond.codeWith y b L r hh ∈ lw_all) : GoodIn lw_all (wsV own idx C y (wsW_ y b L r hh)) := by
  refine lw_app ?_ (lw_methW h5)
  intro w hw
  simp only [List.mem_cons, List.not_mem_nil, or_false] at hw
  rcases hw with e | e | e | e
  · rw [e]; exact h1
  · rw [e]; exact h2
  · rw [e]; exact h3
  · rw [e]; exact h4
theorem lw_SW {own : String} {idx : Nat} {y : MethodName} {b : ByteArray} {L : Nat} {r : Option FieldType} {hh : List (Nat × Nat × Nat × Nat)} (h1 : Cond.methodLink own idx y ∈ lw_all) (h2 : Cond.static y ∈ lw_all) (h3 : Cond.initialized y.cls ∈ lw_all) (h4 : Cond.codeWith y b L r hh ∈ lw_all) : GoodIn lw_all (va_wsS own idx y (wsW_ y b L r hh)) := by
  refine lw_app ?_ (lw_methW h4)
  intro w hw
  simp only [List.mem_cons, List.not_mem_nil, or_false] at hw
  rcases hw with e | e | e
  · rw [e]; exact h1
  · rw [e]; exact h2
  · rw [e]; exact h3
/-- a word by its place in its run of the tables -/
theorem lw_at {r : List Cond} (hr : ∀ w ∈ r, w ∈ lw_tbl) {w : Cond} (i : Nat) (h : r[i]? = some w) : w ∈ lw_tbl := hr w (List.mem_of_getElem? h)
theorem lw_g {w : Cond} (h : w ∈ lw_tbl) (g : goodWord w = true) : w ∈ lw_all := List.mem_filter.mpr ⟨h, g⟩
theorem lw_ms : ∀ w ∈ k2_sels lw_privs, w ∈ lw_tbl := fun w h => show w ∈ k2_sels lw_privs ++ tables_1 from List.mem_append_left _ h
theorem lw_m1 : ∀ w ∈ tables_1_1, w ∈ lw_tbl := fun w h => show w ∈ k2_sels lw_privs ++ tables_1 from List.mem_append_right (k2_sels lw_privs) (show w ∈ tables_1 from List.mem_append_left _ h)
theorem lw_m2 : ∀ w ∈ tables_1_2, w ∈ lw_tbl := fun w h => show w ∈ k2_sels lw_privs ++ tables_1 from List.mem_append_right (k2_sels lw_privs) (show w ∈ tables_1 from List.mem_append_right _ (List.mem_append_left _ h))
theorem lw_m3 : ∀ w ∈ tables_1_3, w ∈ lw_tbl := fun w h => show w ∈ k2_sels lw_privs ++ tables_1 from List.mem_append_right (k2_sels lw_privs) (show w ∈ tables_1 from List.mem_append_right _ (List.mem_append_right _ (List.mem_append_left _ h)))
theorem lw_m4 : ∀ w ∈ tables_1_4, w ∈ lw_tbl := fun w h => show w ∈ k2_sels lw_privs ++ tables_1 from List.mem_append_right (k2_sels lw_privs) (show w ∈ tables_1 from List.mem_append_right _ (List.mem_append_right _ (List.mem_append_right _ (List.mem_append_left _ h))))
theorem lw_m5 : ∀ w ∈ tables_1_5, w ∈ lw_tbl := fun w h => show w ∈ k2_sels lw_privs ++ tables_1 from List.mem_append_right (k2_sels lw_privs) (show w ∈ tables_1 from List.mem_append_right _ (List.mem_append_right _ (List.mem_append_right _ (List.mem_append_right _ (List.mem_append_left _ h)))))
theorem lw_m6 : ∀ w ∈ tables_1_6, w ∈ lw_tbl := fun w h => show w ∈ k2_sels lw_privs ++ tables_1 from List.mem_append_right (k2_sels lw_privs) (show w ∈ tables_1 from List.mem_append_right _ (List.mem_append_right _ (List.mem_append_right _ (List.mem_append_right _ (List.mem_append_right _ (List.mem_append_left _ h))))))
theorem lw_m7 : ∀ w ∈ tables_1_7, w ∈ lw_tbl := fun w h => show w ∈ k2_sels lw_privs ++ tables_1 from List.mem_append_right (k2_sels lw_privs) (show w ∈ tables_1 from List.mem_append_right _ (List.mem_append_right _ (List.mem_append_right _ (List.mem_append_right _ (List.mem_append_right _ (List.mem_append_right _ (List.mem_append_left _ h)))))))
theorem lw_m8 : ∀ w ∈ tables_1_8, w ∈ lw_tbl := fun w h => show w ∈ k2_sels lw_privs ++ tables_1 from List.mem_append_right (k2_sels lw_privs) (show w ∈ tables_1 from List.mem_append_right _ (List.mem_append_right _ (List.mem_append_right _ (List.mem_append_right _ (List.mem_append_right _ (List.mem_append_right _ (List.mem_append_right _ h)))))))
theorem qs0 : (Cond.selects "MiddleSheet" ⟨"MiddleSheet", "feeds", "(I)V"⟩ ⟨"MiddleSheet", "feeds", "(I)V"⟩) ∈ lw_all := lw_g (lw_at lw_ms 0 rfl) rfl
theorem qs1 : (Cond.selects "MiddleSheet$Reader" ⟨"MiddleSheet$Reader", "next", "()V"⟩ ⟨"MiddleSheet$Reader", "next", "()V"⟩) ∈ lw_all := lw_g (lw_at lw_ms 1 rfl) rfl
theorem qs2 : (Cond.selects "MiddleSheet$Reader" ⟨"MiddleSheet$Reader", "wrong", "()LMiddleSheet$Fault;"⟩ ⟨"MiddleSheet$Reader", "wrong", "()LMiddleSheet$Fault;"⟩) ∈ lw_all := lw_g (lw_at lw_ms 2 rfl) rfl
theorem qs3 : (Cond.selects "java/lang/Throwable" ⟨"java/lang/Throwable", "fillInStackTrace", "(I)Ljava/lang/Throwable;"⟩ ⟨"java/lang/Throwable", "fillInStackTrace", "(I)Ljava/lang/Throwable;"⟩) ∈ lw_all := lw_g (lw_at lw_ms 3 rfl) rfl
theorem qs4 : (Cond.selects "MiddleSheet$Reader" ⟨"MiddleSheet$Reader", "tells", "()V"⟩ ⟨"MiddleSheet$Reader", "tells", "()V"⟩) ∈ lw_all := lw_g (lw_at lw_ms 4 rfl) rfl
theorem qs5 : (Cond.selects "MiddleSheet$Reader" ⟨"MiddleSheet$Reader", "word", "(Ljava/lang/String;)I"⟩ ⟨"MiddleSheet$Reader", "word", "(Ljava/lang/String;)I"⟩) ∈ lw_all := lw_g (lw_at lw_ms 5 rfl) rfl
theorem qs6 : (Cond.selects "MiddleSheet$Reader" ⟨"MiddleSheet$Reader", "isOver", "()Z"⟩ ⟨"MiddleSheet$Reader", "isOver", "()Z"⟩) ∈ lw_all := lw_g (lw_at lw_ms 6 rfl) rfl
theorem qs7 : (Cond.selects "MiddleSheet$Reader" ⟨"MiddleSheet$Reader", "needsWord", "(Ljava/lang/String;)I"⟩ ⟨"MiddleSheet$Reader", "needsWord", "(Ljava/lang/String;)I"⟩) ∈ lw_all := lw_g (lw_at lw_ms 7 rfl) rfl
theorem qs8 : (Cond.selects "MiddleSheet$Reader" ⟨"MiddleSheet$Reader", "number", "(II)I"⟩ ⟨"MiddleSheet$Reader", "number", "(II)I"⟩) ∈ lw_all := lw_g (lw_at lw_ms 8 rfl) rfl
theorem qs9 : (Cond.selects "MiddleSheet$Reader" ⟨"MiddleSheet$Reader", "voter", "()V"⟩ ⟨"MiddleSheet$Reader", "voter", "()V"⟩) ∈ lw_all := lw_g (lw_at lw_ms 9 rfl) rfl
theorem qs10 : (Cond.selects "MiddleSheet$Reader" ⟨"MiddleSheet$Reader", "made", "(III)LMiddleSheet$Voter;"⟩ ⟨"MiddleSheet$Reader", "made", "(III)LMiddleSheet$Voter;"⟩) ∈ lw_all := lw_g (lw_at lw_ms 10 rfl) rfl
theorem qs11 : (Cond.selects "java/util/ArrayList" ⟨"java/util/ArrayList", "add", "(Ljava/lang/Object;[Ljava/lang/Object;I)V"⟩ ⟨"java/util/ArrayList", "add", "(Ljava/lang/Object;[Ljava/lang/Object;I)V"⟩) ∈ lw_all := lw_g (lw_at lw_ms 11 rfl) rfl
theorem qs12 : (Cond.selects "java/util/ArrayList" ⟨"java/util/ArrayList", "grow", "()[Ljava/lang/Object;"⟩ ⟨"java/util/ArrayList", "grow", "()[Ljava/lang/Object;"⟩) ∈ lw_all := lw_g (lw_at lw_ms 12 rfl) rfl
theorem qs13 : (Cond.selects "java/util/ArrayList" ⟨"java/util/ArrayList", "grow", "(I)[Ljava/lang/Object;"⟩ ⟨"java/util/ArrayList", "grow", "(I)[Ljava/lang/Object;"⟩) ∈ lw_all := lw_g (lw_at lw_ms 13 rfl) rfl
theorem qs14 : (Cond.selects "MiddleSheet$Reader" ⟨"MiddleSheet$Reader", "win", "()V"⟩ ⟨"MiddleSheet$Reader", "win", "()V"⟩) ∈ lw_all := lw_g (lw_at lw_ms 14 rfl) rfl
theorem qs15 : (Cond.selects "MiddleSheet$Reader" ⟨"MiddleSheet$Reader", "needs", "(I)V"⟩ ⟨"MiddleSheet$Reader", "needs", "(I)V"⟩) ∈ lw_all := lw_g (lw_at lw_ms 15 rfl) rfl
theorem qs16 : (Cond.selects "MiddleSheet" ⟨"MiddleSheet", "stale", "()V"⟩ ⟨"MiddleSheet", "stale", "()V"⟩) ∈ lw_all := lw_g (lw_at lw_ms 16 rfl) rfl
theorem qs17 : (Cond.selects "MiddleSheet" ⟨"MiddleSheet", "voterAt", "(I)LMiddleSheet$Voter;"⟩ ⟨"MiddleSheet", "voterAt", "(I)LMiddleSheet$Voter;"⟩) ∈ lw_all := lw_g (lw_at lw_ms 17 rfl) rfl
theorem qs18 : (Cond.selects "MiddleSheet" ⟨"MiddleSheet", "placeAt", "(I)LMiddleSheet$Place;"⟩ ⟨"MiddleSheet", "placeAt", "(I)LMiddleSheet$Place;"⟩) ∈ lw_all := lw_g (lw_at lw_ms 18 rfl) rfl
theorem qs19 : (Cond.selects "MiddleSheet" ⟨"MiddleSheet", "votesOf", "(LMiddleSheet$Place;LMiddleSheet$Place;)I"⟩ ⟨"MiddleSheet", "votesOf", "(LMiddleSheet$Place;LMiddleSheet$Place;)I"⟩) ∈ lw_all := lw_g (lw_at lw_ms 19 rfl) rfl
theorem qs20 : (Cond.selects "MiddleSheet" ⟨"MiddleSheet", "votesFor", "(IIII)I"⟩ ⟨"MiddleSheet", "votesFor", "(IIII)I"⟩) ∈ lw_all := lw_g (lw_at lw_ms 20 rfl) rfl
theorem qs21 : (Cond.selects "MiddleSheet" ⟨"MiddleSheet", "above", "(LMiddleSheet$Place;LMiddleSheet$Place;)Z"⟩ ⟨"MiddleSheet", "above", "(LMiddleSheet$Place;LMiddleSheet$Place;)Z"⟩) ∈ lw_all := lw_g (lw_at lw_ms 21 rfl) rfl
theorem qs22 : (Cond.selects "MiddleSheet" ⟨"MiddleSheet", "isBeaten", "(IIII)Z"⟩ ⟨"MiddleSheet", "isBeaten", "(IIII)Z"⟩) ∈ lw_all := lw_g (lw_at lw_ms 22 rfl) rfl
theorem qs23 : (Cond.selects "MiddleSheet" ⟨"MiddleSheet", "findLines", "()V"⟩ ⟨"MiddleSheet", "findLines", "()V"⟩) ∈ lw_all := lw_g (lw_at lw_ms 23 rfl) rfl
theorem qs24 : (Cond.selects "MiddleSheet" ⟨"MiddleSheet", "halves", "(LMiddleSheet$Line;)Z"⟩ ⟨"MiddleSheet", "halves", "(LMiddleSheet$Line;)Z"⟩) ∈ lw_all := lw_g (lw_at lw_ms 24 rfl) rfl
theorem qs25 : (Cond.selects "java/util/ArrayList" ⟨"java/util/ArrayList", "rangeCheckForAdd", "(I)V"⟩ ⟨"java/util/ArrayList", "rangeCheckForAdd", "(I)V"⟩) ∈ lw_all := lw_g (lw_at lw_ms 25 rfl) rfl
theorem qs26 : (Cond.selects "MiddleSheet" ⟨"MiddleSheet", "findMiddles", "()V"⟩ ⟨"MiddleSheet", "findMiddles", "()V"⟩) ∈ lw_all := lw_g (lw_at lw_ms 26 rfl) rfl
theorem qs27 : (Cond.selects "MiddleSheet" ⟨"MiddleSheet", "comes", "(LMiddleSheet$Spot;)V"⟩ ⟨"MiddleSheet", "comes", "(LMiddleSheet$Spot;)V"⟩) ∈ lw_all := lw_g (lw_at lw_ms 27 rfl) rfl
theorem qs28 : (Cond.selects "MiddleSheet" ⟨"MiddleSheet", "isMiddle", "(LMiddleSheet$Spot;)Z"⟩ ⟨"MiddleSheet", "isMiddle", "(LMiddleSheet$Spot;)Z"⟩) ∈ lw_all := lw_g (lw_at lw_ms 28 rfl) rfl
theorem qs29 : (Cond.selects "MiddleSheet" ⟨"MiddleSheet", "proves", "()V"⟩ ⟨"MiddleSheet", "proves", "()V"⟩) ∈ lw_all := lw_g (lw_at lw_ms 29 rfl) rfl
theorem qs30 : (Cond.selects "MiddleSheet" ⟨"MiddleSheet", "findRound", "()V"⟩ ⟨"MiddleSheet", "findRound", "()V"⟩) ∈ lw_all := lw_g (lw_at lw_ms 30 rfl) rfl
theorem qs31 : (Cond.selects "MiddleSheet" ⟨"MiddleSheet", "findPieces", "(II)V"⟩ ⟨"MiddleSheet", "findPieces", "(II)V"⟩) ∈ lw_all := lw_g (lw_at lw_ms 31 rfl) rfl
theorem qs32 : (Cond.selects "MiddleSheet" ⟨"MiddleSheet", "fills", "(I)V"⟩ ⟨"MiddleSheet", "fills", "(I)V"⟩) ∈ lw_all := lw_g (lw_at lw_ms 32 rfl) rfl
theorem qs33 : (Cond.selects "MiddleSheet" ⟨"MiddleSheet", "spreads", "(III)I"⟩ ⟨"MiddleSheet", "spreads", "(III)I"⟩) ∈ lw_all := lw_g (lw_at lw_ms 33 rfl) rfl
theorem qs34 : (Cond.selects "MiddleSheet" ⟨"MiddleSheet", "findSteps", "(I)V"⟩ ⟨"MiddleSheet", "findSteps", "(I)V"⟩) ∈ lw_all := lw_g (lw_at lw_ms 34 rfl) rfl
theorem qs35 : (Cond.selects "MiddleSheet" ⟨"MiddleSheet", "reaches", "(I)Z"⟩ ⟨"MiddleSheet", "reaches", "(I)Z"⟩) ∈ lw_all := lw_g (lw_at lw_ms 35 rfl) rfl
theorem qs36 : (Cond.selects "MiddleSheet" ⟨"MiddleSheet", "isOpen", "(I)Z"⟩ ⟨"MiddleSheet", "isOpen", "(I)Z"⟩) ∈ lw_all := lw_g (lw_at lw_ms 36 rfl) rfl
theorem qs37 : (Cond.selects "MiddleSheet" ⟨"MiddleSheet", "covers", "(LMiddleSheet$Place;LMiddleSheet$Place;)Z"⟩ ⟨"MiddleSheet", "covers", "(LMiddleSheet$Place;LMiddleSheet$Place;)Z"⟩) ∈ lw_all := lw_g (lw_at lw_ms 37 rfl) rfl
theorem qs38 : (Cond.selects "MiddleSheet" ⟨"MiddleSheet", "gains", "()I"⟩ ⟨"MiddleSheet", "gains", "()I"⟩) ∈ lw_all := lw_g (lw_at lw_ms 38 rfl) rfl
theorem qs39 : (Cond.selects "MiddleSheet" ⟨"MiddleSheet", "findLots", "()Z"⟩ ⟨"MiddleSheet", "findLots", "()Z"⟩) ∈ lw_all := lw_g (lw_at lw_ms 39 rfl) rfl
theorem qs40 : (Cond.selects "MiddleSheet" ⟨"MiddleSheet", "isLots", "(II)Z"⟩ ⟨"MiddleSheet", "isLots", "(II)Z"⟩) ∈ lw_all := lw_g (lw_at lw_ms 40 rfl) rfl
theorem qs41 : (Cond.selects "MiddleSheet" ⟨"MiddleSheet", "hasShares", "(I)Z"⟩ ⟨"MiddleSheet", "hasShares", "(I)Z"⟩) ∈ lw_all := lw_g (lw_at lw_ms 41 rfl) rfl
theorem qs42 : (Cond.selects "MiddleSheet" ⟨"MiddleSheet", "pairs", "(I)J"⟩ ⟨"MiddleSheet", "pairs", "(I)J"⟩) ∈ lw_all := lw_g (lw_at lw_ms 42 rfl) rfl
theorem qs43 : (Cond.selects "MiddleSheet" ⟨"MiddleSheet", "needOf", "(I)I"⟩ ⟨"MiddleSheet", "needOf", "(I)I"⟩) ∈ lw_all := lw_g (lw_at lw_ms 43 rfl) rfl
theorem qs44 : (Cond.selects "MiddleSheet" ⟨"MiddleSheet", "isUnbeaten", "(I)Z"⟩ ⟨"MiddleSheet", "isUnbeaten", "(I)Z"⟩) ∈ lw_all := lw_g (lw_at lw_ms 44 rfl) rfl
theorem qs45 : (Cond.selects "MiddleSheet" ⟨"MiddleSheet", "surely", "(LMiddleSheet$Voter;ILMiddleSheet$Place;LMiddleSheet$Place;)I"⟩ ⟨"MiddleSheet", "surely", "(LMiddleSheet$Voter;ILMiddleSheet$Place;LMiddleSheet$Place;)I"⟩) ∈ lw_all := lw_g (lw_at lw_ms 45 rfl) rfl
theorem qs46 : (Cond.selects "MiddleSheet" ⟨"MiddleSheet", "pairMany", "()I"⟩ ⟨"MiddleSheet", "pairMany", "()I"⟩) ∈ lw_all := lw_g (lw_at lw_ms 46 rfl) rfl
theorem qs47 : (Cond.selects "MiddleSheet" ⟨"MiddleSheet", "puts", "(III)V"⟩ ⟨"MiddleSheet", "puts", "(III)V"⟩) ∈ lw_all := lw_g (lw_at lw_ms 47 rfl) rfl
theorem qs48 : (Cond.selects "java/util/ArrayList" ⟨"java/util/ArrayList", "fastRemove", "([Ljava/lang/Object;I)V"⟩ ⟨"java/util/ArrayList", "fastRemove", "([Ljava/lang/Object;I)V"⟩) ∈ lw_all := lw_g (lw_at lw_ms 48 rfl) rfl
theorem qs49 : (Cond.selects "MiddleSheetModel" ⟨"MiddleSheetModel", "feeds", "(I)V"⟩ ⟨"MiddleSheetModel", "feeds", "(I)V"⟩) ∈ lw_all := lw_g (lw_at lw_ms 49 rfl) rfl
theorem qs50 : (Cond.selects "MiddleSheetModel" ⟨"MiddleSheetModel", "reads", "()V"⟩ ⟨"MiddleSheetModel", "reads", "()V"⟩) ∈ lw_all := lw_g (lw_at lw_ms 50 rfl) rfl
theorem qs51 : (Cond.selects "MiddleSheetModel" ⟨"MiddleSheetModel", "skips", "()V"⟩ ⟨"MiddleSheetModel", "skips", "()V"⟩) ∈ lw_all := lw_g (lw_at lw_ms 51 rfl) rfl
theorem qs52 : (Cond.selects "MiddleSheetModel" ⟨"MiddleSheetModel", "told", "()Z"⟩ ⟨"MiddleSheetModel", "told", "()Z"⟩) ∈ lw_all := lw_g (lw_at lw_ms 52 rfl) rfl
theorem qs53 : (Cond.selects "MiddleSheetModel" ⟨"MiddleSheetModel", "isWord", "(Ljava/lang/String;)Z"⟩ ⟨"MiddleSheetModel", "isWord", "(Ljava/lang/String;)Z"⟩) ∈ lw_all := lw_g (lw_at lw_ms 53 rfl) rfl
theorem qs54 : (Cond.selects "MiddleSheetModel" ⟨"MiddleSheetModel", "passes", "(Z)Z"⟩ ⟨"MiddleSheetModel", "passes", "(Z)Z"⟩) ∈ lw_all := lw_g (lw_at lw_ms 54 rfl) rfl
theorem qs55 : (Cond.selects "MiddleSheetModel" ⟨"MiddleSheetModel", "near", "()Z"⟩ ⟨"MiddleSheetModel", "near", "()Z"⟩) ∈ lw_all := lw_g (lw_at lw_ms 55 rfl) rfl
theorem qs56 : (Cond.selects "MiddleSheetModel" ⟨"MiddleSheetModel", "isSign", "(I)Z"⟩ ⟨"MiddleSheetModel", "isSign", "(I)Z"⟩) ∈ lw_all := lw_g (lw_at lw_ms 56 rfl) rfl
theorem qs57 : (Cond.selects "MiddleSheetModel" ⟨"MiddleSheetModel", "stretch", "()Z"⟩ ⟨"MiddleSheetModel", "stretch", "()Z"⟩) ∈ lw_all := lw_g (lw_at lw_ms 57 rfl) rfl
theorem qs58 : (Cond.selects "MiddleSheetModel" ⟨"MiddleSheetModel", "number", "(II)Z"⟩ ⟨"MiddleSheetModel", "number", "(II)Z"⟩) ∈ lw_all := lw_g (lw_at lw_ms 58 rfl) rfl
theorem qs59 : (Cond.selects "MiddleSheetModel" ⟨"MiddleSheetModel", "voterRead", "()Z"⟩ ⟨"MiddleSheetModel", "voterRead", "()Z"⟩) ∈ lw_all := lw_g (lw_at lw_ms 59 rfl) rfl
theorem qs60 : (Cond.selects "MiddleSheetModel" ⟨"MiddleSheetModel", "placeRead", "()Z"⟩ ⟨"MiddleSheetModel", "placeRead", "()Z"⟩) ∈ lw_all := lw_g (lw_at lw_ms 60 rfl) rfl
theorem qs61 : (Cond.selects "MiddleSheetModel" ⟨"MiddleSheetModel", "winRead", "()Z"⟩ ⟨"MiddleSheetModel", "winRead", "()Z"⟩) ∈ lw_all := lw_g (lw_at lw_ms 61 rfl) rfl
theorem qs62 : (Cond.selects "MiddleSheetModel" ⟨"MiddleSheetModel", "voters", "()I"⟩ ⟨"MiddleSheetModel", "voters", "()I"⟩) ∈ lw_all := lw_g (lw_at lw_ms 62 rfl) rfl
theorem qs63 : (Cond.selects "MiddleSheetModel" ⟨"MiddleSheetModel", "isVoter", "(I)Z"⟩ ⟨"MiddleSheetModel", "isVoter", "(I)Z"⟩) ∈ lw_all := lw_g (lw_at lw_ms 63 rfl) rfl
theorem qs64 : (Cond.selects "MiddleSheetModel" ⟨"MiddleSheetModel", "isPlace", "(I)Z"⟩ ⟨"MiddleSheetModel", "isPlace", "(I)Z"⟩) ∈ lw_all := lw_g (lw_at lw_ms 64 rfl) rfl
theorem qs65 : (Cond.selects "MiddleSheetModel" ⟨"MiddleSheetModel", "places", "()I"⟩ ⟨"MiddleSheetModel", "places", "()I"⟩) ∈ lw_all := lw_g (lw_at lw_ms 65 rfl) rfl
theorem qs66 : (Cond.selects "MiddleSheetModel" ⟨"MiddleSheetModel", "wayOf", "(III)I"⟩ ⟨"MiddleSheetModel", "wayOf", "(III)I"⟩) ∈ lw_all := lw_g (lw_at lw_ms 66 rfl) rfl
theorem qs67 : (Cond.selects "MiddleSheetModel" ⟨"MiddleSheetModel", "wayFrom", "(IIIII)I"⟩ ⟨"MiddleSheetModel", "wayFrom", "(IIIII)I"⟩) ∈ lw_all := lw_g (lw_at lw_ms 67 rfl) rfl
theorem qs68 : (Cond.selects "MiddleSheetModel" ⟨"MiddleSheetModel", "votesOf", "(II)I"⟩ ⟨"MiddleSheetModel", "votesOf", "(II)I"⟩) ∈ lw_all := lw_g (lw_at lw_ms 68 rfl) rfl
theorem qs69 : (Cond.selects "MiddleSheetModel" ⟨"MiddleSheetModel", "forOf", "(IIII)I"⟩ ⟨"MiddleSheetModel", "forOf", "(IIII)I"⟩) ∈ lw_all := lw_g (lw_at lw_ms 69 rfl) rfl
theorem qs70 : (Cond.selects "MiddleSheetModel" ⟨"MiddleSheetModel", "beatsOf", "(II)Z"⟩ ⟨"MiddleSheetModel", "beatsOf", "(II)Z"⟩) ∈ lw_all := lw_g (lw_at lw_ms 70 rfl) rfl
theorem qs71 : (Cond.selects "MiddleSheetModel" ⟨"MiddleSheetModel", "beatsAt", "(IIII)Z"⟩ ⟨"MiddleSheetModel", "beatsAt", "(IIII)Z"⟩) ∈ lw_all := lw_g (lw_at lw_ms 71 rfl) rfl
theorem qs72 : (Cond.selects "MiddleSheetModel" ⟨"MiddleSheetModel", "isWon", "(II)Z"⟩ ⟨"MiddleSheetModel", "isWon", "(II)Z"⟩) ∈ lw_all := lw_g (lw_at lw_ms 72 rfl) rfl
theorem qs73 : (Cond.selects "MiddleSheetModel" ⟨"MiddleSheetModel", "total", "()I"⟩ ⟨"MiddleSheetModel", "total", "()I"⟩) ∈ lw_all := lw_g (lw_at lw_ms 73 rfl) rfl
theorem qs74 : (Cond.selects "MiddleSheetModel" ⟨"MiddleSheetModel", "knows", "()V"⟩ ⟨"MiddleSheetModel", "knows", "()V"⟩) ∈ lw_all := lw_g (lw_at lw_ms 74 rfl) rfl
theorem qs75 : (Cond.selects "MiddleSheetModel" ⟨"MiddleSheetModel", "through", "(II)V"⟩ ⟨"MiddleSheetModel", "through", "(II)V"⟩) ∈ lw_all := lw_g (lw_at lw_ms 75 rfl) rfl
theorem qs76 : (Cond.selects "MiddleSheetModel" ⟨"MiddleSheetModel", "halves", "(III)Z"⟩ ⟨"MiddleSheetModel", "halves", "(III)Z"⟩) ∈ lw_all := lw_g (lw_at lw_ms 76 rfl) rfl
theorem qs77 : (Cond.selects "MiddleSheetModel" ⟨"MiddleSheetModel", "addsLine", "(III)V"⟩ ⟨"MiddleSheetModel", "addsLine", "(III)V"⟩) ∈ lw_all := lw_g (lw_at lw_ms 77 rfl) rfl
theorem qs78 : (Cond.selects "MiddleSheetModel" ⟨"MiddleSheetModel", "isAhead", "(IIII)Z"⟩ ⟨"MiddleSheetModel", "isAhead", "(IIII)Z"⟩) ∈ lw_all := lw_g (lw_at lw_ms 78 rfl) rfl
theorem qs79 : (Cond.selects "MiddleSheetModel" ⟨"MiddleSheetModel", "findsMiddles", "()V"⟩ ⟨"MiddleSheetModel", "findsMiddles", "()V"⟩) ∈ lw_all := lw_g (lw_at lw_ms 79 rfl) rfl
theorem qs80 : (Cond.selects "MiddleSheetModel" ⟨"MiddleSheetModel", "addsMiddle", "(JJJ)V"⟩ ⟨"MiddleSheetModel", "addsMiddle", "(JJJ)V"⟩) ∈ lw_all := lw_g (lw_at lw_ms 80 rfl) rfl
theorem qs81 : (Cond.selects "MiddleSheetModel" ⟨"MiddleSheetModel", "isMiddle", "(JJJ)Z"⟩ ⟨"MiddleSheetModel", "isMiddle", "(JJJ)Z"⟩) ∈ lw_all := lw_g (lw_at lw_ms 81 rfl) rfl
theorem qs82 : (Cond.selects "MiddleSheetModel" ⟨"MiddleSheetModel", "isBehind", "(IJJJ)Z"⟩ ⟨"MiddleSheetModel", "isBehind", "(IJJJ)Z"⟩) ∈ lw_all := lw_g (lw_at lw_ms 82 rfl) rfl
theorem qs83 : (Cond.selects "MiddleSheetModel" ⟨"MiddleSheetModel", "meet", "(III)Z"⟩ ⟨"MiddleSheetModel", "meet", "(III)Z"⟩) ∈ lw_all := lw_g (lw_at lw_ms 83 rfl) rfl
theorem qs84 : (Cond.selects "MiddleSheetModel" ⟨"MiddleSheetModel", "far", "(II)V"⟩ ⟨"MiddleSheetModel", "far", "(II)V"⟩) ∈ lw_all := lw_g (lw_at lw_ms 84 rfl) rfl
theorem qs85 : (Cond.selects "MiddleSheetModel" ⟨"MiddleSheetModel", "finds", "(II)V"⟩ ⟨"MiddleSheetModel", "finds", "(II)V"⟩) ∈ lw_all := lw_g (lw_at lw_ms 85 rfl) rfl
theorem qs86 : (Cond.selects "MiddleSheetModel" ⟨"MiddleSheetModel", "floods", "(II)V"⟩ ⟨"MiddleSheetModel", "floods", "(II)V"⟩) ∈ lw_all := lw_g (lw_at lw_ms 86 rfl) rfl
theorem qs87 : (Cond.selects "MiddleSheetModel" ⟨"MiddleSheetModel", "leads", "(I)V"⟩ ⟨"MiddleSheetModel", "leads", "(I)V"⟩) ∈ lw_all := lw_g (lw_at lw_ms 87 rfl) rfl
theorem qs88 : (Cond.selects "MiddleSheetModel" ⟨"MiddleSheetModel", "isReached", "(I)Z"⟩ ⟨"MiddleSheetModel", "isReached", "(I)Z"⟩) ∈ lw_all := lw_g (lw_at lw_ms 88 rfl) rfl
theorem qs89 : (Cond.selects "MiddleSheetModel" ⟨"MiddleSheetModel", "isOpen", "(I)Z"⟩ ⟨"MiddleSheetModel", "isOpen", "(I)Z"⟩) ∈ lw_all := lw_g (lw_at lw_ms 89 rfl) rfl
theorem qs90 : (Cond.selects "MiddleSheetModel" ⟨"MiddleSheetModel", "covers", "(II)Z"⟩ ⟨"MiddleSheetModel", "covers", "(II)Z"⟩) ∈ lw_all := lw_g (lw_at lw_ms 90 rfl) rfl
theorem qs91 : (Cond.selects "MiddleSheetModel" ⟨"MiddleSheetModel", "chosen", "()I"⟩ ⟨"MiddleSheetModel", "chosen", "()I"⟩) ∈ lw_all := lw_g (lw_at lw_ms 91 rfl) rfl
theorem qs92 : (Cond.selects "MiddleSheetModel" ⟨"MiddleSheetModel", "gain", "(II)I"⟩ ⟨"MiddleSheetModel", "gain", "(II)I"⟩) ∈ lw_all := lw_g (lw_at lw_ms 92 rfl) rfl
theorem qs93 : (Cond.selects "MiddleSheetModel" ⟨"MiddleSheetModel", "findsLots", "()Z"⟩ ⟨"MiddleSheetModel", "findsLots", "()Z"⟩) ∈ lw_all := lw_g (lw_at lw_ms 93 rfl) rfl
theorem qs94 : (Cond.selects "MiddleSheetModel" ⟨"MiddleSheetModel", "isLot", "(I)Z"⟩ ⟨"MiddleSheetModel", "isLot", "(I)Z"⟩) ∈ lw_all := lw_g (lw_at lw_ms 94 rfl) rfl
theorem qs95 : (Cond.selects "MiddleSheetModel" ⟨"MiddleSheetModel", "coupled", "(I)J"⟩ ⟨"MiddleSheetModel", "coupled", "(I)J"⟩) ∈ lw_all := lw_g (lw_at lw_ms 95 rfl) rfl
theorem qs96 : (Cond.selects "MiddleSheetModel" ⟨"MiddleSheetModel", "needOf", "(I)I"⟩ ⟨"MiddleSheetModel", "needOf", "(I)I"⟩) ∈ lw_all := lw_g (lw_at lw_ms 96 rfl) rfl
theorem qs97 : (Cond.selects "MiddleSheetModel" ⟨"MiddleSheetModel", "isUnbeaten", "(I)Z"⟩ ⟨"MiddleSheetModel", "isUnbeaten", "(I)Z"⟩) ∈ lw_all := lw_g (lw_at lw_ms 97 rfl) rfl
theorem qs98 : (Cond.selects "MiddleSheetModel" ⟨"MiddleSheetModel", "joins", "(II)Z"⟩ ⟨"MiddleSheetModel", "joins", "(II)Z"⟩) ∈ lw_all := lw_g (lw_at lw_ms 98 rfl) rfl
theorem qs99 : (Cond.selects "MiddleSheetModel" ⟨"MiddleSheetModel", "asks", "(III)V"⟩ ⟨"MiddleSheetModel", "asks", "(III)V"⟩) ∈ lw_all := lw_g (lw_at lw_ms 99 rfl) rfl
theorem qs100 : (Cond.selects "MiddleSheetModel" ⟨"MiddleSheetModel", "sure", "(IIII)I"⟩ ⟨"MiddleSheetModel", "sure", "(IIII)I"⟩) ∈ lw_all := lw_g (lw_at lw_ms 100 rfl) rfl
theorem qs101 : (Cond.selects "MiddleSheetModel" ⟨"MiddleSheetModel", "pairs", "()I"⟩ ⟨"MiddleSheetModel", "pairs", "()I"⟩) ∈ lw_all := lw_g (lw_at lw_ms 101 rfl) rfl
