-- ===== PART A: goes FIRST, ahead of the names: the tables' words, and 'selects' of the private methods out of them =====
/-- a private method of a class that the tables say can be made, by its rows of tables_1 -/
def lw_okq (q : MethodName × Nat) : Prop := (q.1.cls ≠ "java/lang/invoke/MethodHandle" ∧ q.1.cls ≠ "java/lang/invoke/VarHandle") ∧ Cond.instantiable q.1.cls q.2 ∈ tables_1 ∧ Cond.privateMethod q.1 ∈ tables_1 ∧ Cond.instanceMethod q.1 ∈ tables_1
set_option maxRecDepth 100000
theorem lw_t1 {w : Cond} (h : w ∈ tables_1_1) : w ∈ tables_1 := List.mem_append_left _ h
theorem lw_t2 {w : Cond} (h : w ∈ tables_1_2) : w ∈ tables_1 := List.mem_append_right _ (List.mem_append_left _ h)
theorem lw_t3 {w : Cond} (h : w ∈ tables_1_3) : w ∈ tables_1 := List.mem_append_right _ (List.mem_append_right _ (List.mem_append_left _ h))
theorem lw_t4 {w : Cond} (h : w ∈ tables_1_4) : w ∈ tables_1 := List.mem_append_right _ (List.mem_append_right _ (List.mem_append_right _ (List.mem_append_left _ h)))
theorem lw_t5 {w : Cond} (h : w ∈ tables_1_5) : w ∈ tables_1 := List.mem_append_right _ (List.mem_append_right _ (List.mem_append_right _ (List.mem_append_right _ (List.mem_append_left _ h))))
theorem lw_t6 {w : Cond} (h : w ∈ tables_1_6) : w ∈ tables_1 := List.mem_append_right _ (List.mem_append_right _ (List.mem_append_right _ (List.mem_append_right _ (List.mem_append_right _ (List.mem_append_left _ h)))))
theorem lw_t7 {w : Cond} (h : w ∈ tables_1_7) : w ∈ tables_1 := List.mem_append_right _ (List.mem_append_right _ (List.mem_append_right _ (List.mem_append_right _ (List.mem_append_right _ (List.mem_append_right _ (List.mem_append_left _ h))))))
theorem lw_t8 {w : Cond} (h : w ∈ tables_1_8) : w ∈ tables_1 := List.mem_append_right _ (List.mem_append_right _ (List.mem_append_right _ (List.mem_append_right _ (List.mem_append_right _ (List.mem_append_right _ (List.mem_append_right _ h))))))
theorem lw_p0 : lw_okq (⟨"TourRooms", "isPerson", "(I)Z"⟩, 39) := ⟨⟨by decide +kernel, by decide +kernel⟩, lw_t1 (List.mem_of_getElem? (i := 36) rfl), lw_t2 (List.mem_of_getElem? (i := 27) rfl), lw_t2 (List.mem_of_getElem? (i := 28) rfl)⟩
theorem lw_p1 : lw_okq (⟨"TourRooms", "leaves", "(IZII)Z"⟩, 39) := ⟨⟨by decide +kernel, by decide +kernel⟩, lw_t1 (List.mem_of_getElem? (i := 36) rfl), lw_t2 (List.mem_of_getElem? (i := 39) rfl), lw_t2 (List.mem_of_getElem? (i := 40) rfl)⟩
theorem lw_p2 : lw_okq (⟨"TourRooms", "falls", "(IIZII)Z"⟩, 39) := ⟨⟨by decide +kernel, by decide +kernel⟩, lw_t1 (List.mem_of_getElem? (i := 36) rfl), lw_t2 (List.mem_of_getElem? (i := 43) rfl), lw_t2 (List.mem_of_getElem? (i := 44) rfl)⟩
theorem lw_p3 : lw_okq (⟨"TourRooms", "isOver", "(I)Z"⟩, 39) := ⟨⟨by decide +kernel, by decide +kernel⟩, lw_t1 (List.mem_of_getElem? (i := 36) rfl), lw_t2 (List.mem_of_getElem? (i := 47) rfl), lw_t2 (List.mem_of_getElem? (i := 48) rfl)⟩
theorem lw_p4 : lw_okq (⟨"TourRooms", "note", "(III)V"⟩, 39) := ⟨⟨by decide +kernel, by decide +kernel⟩, lw_t1 (List.mem_of_getElem? (i := 36) rfl), lw_t2 (List.mem_of_getElem? (i := 51) rfl), lw_t2 (List.mem_of_getElem? (i := 52) rfl)⟩
theorem lw_p5 : lw_okq (⟨"TourRooms", "isTown", "(I)Z"⟩, 39) := ⟨⟨by decide +kernel, by decide +kernel⟩, lw_t1 (List.mem_of_getElem? (i := 36) rfl), lw_t2 (List.mem_of_getElem? (i := 143) rfl), lw_t2 (List.mem_of_getElem? (i := 144) rfl)⟩
theorem lw_p6 : lw_okq (⟨"TourRooms", "isRoom", "(II)Z"⟩, 39) := ⟨⟨by decide +kernel, by decide +kernel⟩, lw_t1 (List.mem_of_getElem? (i := 36) rfl), lw_t2 (List.mem_of_getElem? (i := 181) rfl), lw_t2 (List.mem_of_getElem? (i := 182) rfl)⟩
theorem lw_p7 : lw_okq (⟨"TourRooms", "joins", "(LTourRooms$Room;II)Z"⟩, 39) := ⟨⟨by decide +kernel, by decide +kernel⟩, lw_t1 (List.mem_of_getElem? (i := 36) rfl), lw_t2 (List.mem_of_getElem? (i := 189) rfl), lw_t2 (List.mem_of_getElem? (i := 190) rfl)⟩
theorem lw_p8 : lw_okq (⟨"TourRooms", "there", "(I)I"⟩, 39) := ⟨⟨by decide +kernel, by decide +kernel⟩, lw_t1 (List.mem_of_getElem? (i := 36) rfl), lw_t2 (List.mem_of_getElem? (i := 211) rfl), lw_t2 (List.mem_of_getElem? (i := 212) rfl)⟩
theorem lw_p9 : lw_okq (⟨"TourRooms", "best", "(LTourRooms$Town;III)J"⟩, 39) := ⟨⟨by decide +kernel, by decide +kernel⟩, lw_t1 (List.mem_of_getElem? (i := 36) rfl), lw_t2 (List.mem_of_getElem? (i := 216) rfl), lw_t2 (List.mem_of_getElem? (i := 217) rfl)⟩
theorem lw_p10 : lw_okq (⟨"TourRooms", "fits", "(LTourRooms$Room;I)Z"⟩, 39) := ⟨⟨by decide +kernel, by decide +kernel⟩, lw_t1 (List.mem_of_getElem? (i := 36) rfl), lw_t2 (List.mem_of_getElem? (i := 220) rfl), lw_t2 (List.mem_of_getElem? (i := 221) rfl)⟩
theorem lw_p11 : lw_okq (⟨"TourRooms", "price", "(LTourRooms$Town;III)J"⟩, 39) := ⟨⟨by decide +kernel, by decide +kernel⟩, lw_t1 (List.mem_of_getElem? (i := 36) rfl), lw_t2 (List.mem_of_getElem? (i := 224) rfl), lw_t2 (List.mem_of_getElem? (i := 225) rfl)⟩
theorem lw_p12 : lw_okq (⟨"TourRooms", "isBest", "(LTourRooms$Town;IIII)Z"⟩, 39) := ⟨⟨by decide +kernel, by decide +kernel⟩, lw_t1 (List.mem_of_getElem? (i := 36) rfl), lw_t2 (List.mem_of_getElem? (i := 233) rfl), lw_t2 (List.mem_of_getElem? (i := 234) rfl)⟩
theorem lw_p13 : lw_okq (⟨"TourRooms", "mostOf", "(LTourRooms$Town;II)J"⟩, 39) := ⟨⟨by decide +kernel, by decide +kernel⟩, lw_t1 (List.mem_of_getElem? (i := 36) rfl), lw_t3 (List.mem_of_getElem? (i := 10) rfl), lw_t3 (List.mem_of_getElem? (i := 11) rfl)⟩
theorem lw_p14 : lw_okq (⟨"TourRooms", "isRight", "(I)Z"⟩, 39) := ⟨⟨by decide +kernel, by decide +kernel⟩, lw_t1 (List.mem_of_getElem? (i := 36) rfl), lw_t3 (List.mem_of_getElem? (i := 21) rfl), lw_t3 (List.mem_of_getElem? (i := 22) rfl)⟩
theorem lw_p15 : lw_okq (⟨"TourRooms$Reader", "next", "()V"⟩, 6) := ⟨⟨by decide +kernel, by decide +kernel⟩, lw_t3 (List.mem_of_getElem? (i := 38) rfl), lw_t3 (List.mem_of_getElem? (i := 73) rfl), lw_t3 (List.mem_of_getElem? (i := 74) rfl)⟩
def lw_privs_1 : List (MethodName × Nat) := [(⟨"TourRooms", "isPerson", "(I)Z"⟩, 39), (⟨"TourRooms", "leaves", "(IZII)Z"⟩, 39), (⟨"TourRooms", "falls", "(IIZII)Z"⟩, 39), (⟨"TourRooms", "isOver", "(I)Z"⟩, 39), (⟨"TourRooms", "note", "(III)V"⟩, 39), (⟨"TourRooms", "isTown", "(I)Z"⟩, 39), (⟨"TourRooms", "isRoom", "(II)Z"⟩, 39), (⟨"TourRooms", "joins", "(LTourRooms$Room;II)Z"⟩, 39), (⟨"TourRooms", "there", "(I)I"⟩, 39), (⟨"TourRooms", "best", "(LTourRooms$Town;III)J"⟩, 39), (⟨"TourRooms", "fits", "(LTourRooms$Room;I)Z"⟩, 39), (⟨"TourRooms", "price", "(LTourRooms$Town;III)J"⟩, 39), (⟨"TourRooms", "isBest", "(LTourRooms$Town;IIII)Z"⟩, 39), (⟨"TourRooms", "mostOf", "(LTourRooms$Town;II)J"⟩, 39), (⟨"TourRooms", "isRight", "(I)Z"⟩, 39), (⟨"TourRooms$Reader", "next", "()V"⟩, 6)]
theorem lw_r1 : ∀ q ∈ lw_privs_1, lw_okq q := List.forall_mem_cons.mpr ⟨lw_p0, List.forall_mem_cons.mpr ⟨lw_p1, List.forall_mem_cons.mpr ⟨lw_p2, List.forall_mem_cons.mpr ⟨lw_p3, List.forall_mem_cons.mpr ⟨lw_p4, List.forall_mem_cons.mpr ⟨lw_p5, List.forall_mem_cons.mpr ⟨lw_p6, List.forall_mem_cons.mpr ⟨lw_p7, List.forall_mem_cons.mpr ⟨lw_p8, List.forall_mem_cons.mpr ⟨lw_p9, List.forall_mem_cons.mpr ⟨lw_p10, List.forall_mem_cons.mpr ⟨lw_p11, List.forall_mem_cons.mpr ⟨lw_p12, List.forall_mem_cons.mpr ⟨lw_p13, List.forall_mem_cons.mpr ⟨lw_p14, List.forall_mem_cons.mpr ⟨lw_p15, fun _ h => absurd h List.not_mem_nil⟩⟩⟩⟩⟩⟩⟩⟩⟩⟩⟩⟩⟩⟩⟩⟩
theorem lw_p16 : lw_okq (⟨"TourRooms$Reader", "at", "(I)I"⟩, 6) := ⟨⟨by decide +kernel, by decide +kernel⟩, lw_t3 (List.mem_of_getElem? (i := 38) rfl), lw_t3 (List.mem_of_getElem? (i := 77) rfl), lw_t3 (List.mem_of_getElem? (i := 78) rfl)⟩
theorem lw_p17 : lw_okq (⟨"TourRooms$Reader", "isLetter", "(I)Z"⟩, 6) := ⟨⟨by decide +kernel, by decide +kernel⟩, lw_t3 (List.mem_of_getElem? (i := 38) rfl), lw_t3 (List.mem_of_getElem? (i := 81) rfl), lw_t3 (List.mem_of_getElem? (i := 82) rfl)⟩
theorem lw_p18 : lw_okq (⟨"TourRooms$Reader", "isDigit", "(I)Z"⟩, 6) := ⟨⟨by decide +kernel, by decide +kernel⟩, lw_t3 (List.mem_of_getElem? (i := 38) rfl), lw_t3 (List.mem_of_getElem? (i := 85) rfl), lw_t3 (List.mem_of_getElem? (i := 86) rfl)⟩
theorem lw_p19 : lw_okq (⟨"TourRooms$Reader", "which", "(Ljava/lang/String;)I"⟩, 6) := ⟨⟨by decide +kernel, by decide +kernel⟩, lw_t3 (List.mem_of_getElem? (i := 38) rfl), lw_t3 (List.mem_of_getElem? (i := 90) rfl), lw_t3 (List.mem_of_getElem? (i := 91) rfl)⟩
theorem lw_p20 : lw_okq (⟨"TourRooms$Reader", "wrong", "(I)LTourRooms$Wrong;"⟩, 6) := ⟨⟨by decide +kernel, by decide +kernel⟩, lw_t3 (List.mem_of_getElem? (i := 38) rfl), lw_t3 (List.mem_of_getElem? (i := 197) rfl), lw_t3 (List.mem_of_getElem? (i := 198) rfl)⟩
theorem lw_p21 : lw_okq (⟨"java/lang/Throwable", "fillInStackTrace", "(I)Ljava/lang/Throwable;"⟩, 6) := ⟨⟨by decide +kernel, by decide +kernel⟩, lw_t3 (List.mem_of_getElem? (i := 238) rfl), lw_t3 (List.mem_of_getElem? (i := 236) rfl), lw_t3 (List.mem_of_getElem? (i := 237) rfl)⟩
theorem lw_p22 : lw_okq (⟨"TourRooms$Reader", "e", "()LTourRooms$Exp;"⟩, 6) := ⟨⟨by decide +kernel, by decide +kernel⟩, lw_t3 (List.mem_of_getElem? (i := 38) rfl), lw_t4 (List.mem_of_getElem? (i := 34) rfl), lw_t4 (List.mem_of_getElem? (i := 35) rfl)⟩
theorem lw_p23 : lw_okq (⟨"TourRooms$Reader", "test", "()LTourRooms$Exp;"⟩, 6) := ⟨⟨by decide +kernel, by decide +kernel⟩, lw_t3 (List.mem_of_getElem? (i := 38) rfl), lw_t4 (List.mem_of_getElem? (i := 38) rfl), lw_t4 (List.mem_of_getElem? (i := 39) rfl)⟩
theorem lw_p24 : lw_okq (⟨"TourRooms$Reader", "sum", "()LTourRooms$Exp;"⟩, 6) := ⟨⟨by decide +kernel, by decide +kernel⟩, lw_t3 (List.mem_of_getElem? (i := 38) rfl), lw_t4 (List.mem_of_getElem? (i := 42) rfl), lw_t4 (List.mem_of_getElem? (i := 43) rfl)⟩
theorem lw_p25 : lw_okq (⟨"TourRooms$Reader", "part", "()LTourRooms$Exp;"⟩, 6) := ⟨⟨by decide +kernel, by decide +kernel⟩, lw_t3 (List.mem_of_getElem? (i := 38) rfl), lw_t4 (List.mem_of_getElem? (i := 46) rfl), lw_t4 (List.mem_of_getElem? (i := 47) rfl)⟩
theorem lw_p26 : lw_okq (⟨"TourRooms$Reader", "isSign", "(C)Z"⟩, 6) := ⟨⟨by decide +kernel, by decide +kernel⟩, lw_t3 (List.mem_of_getElem? (i := 38) rfl), lw_t4 (List.mem_of_getElem? (i := 74) rfl), lw_t4 (List.mem_of_getElem? (i := 75) rfl)⟩
theorem lw_p27 : lw_okq (⟨"TourRooms$Reader", "need", "(C)V"⟩, 6) := ⟨⟨by decide +kernel, by decide +kernel⟩, lw_t3 (List.mem_of_getElem? (i := 38) rfl), lw_t4 (List.mem_of_getElem? (i := 78) rfl), lw_t4 (List.mem_of_getElem? (i := 79) rfl)⟩
theorem lw_p28 : lw_okq (⟨"java/util/ArrayList", "add", "(Ljava/lang/Object;[Ljava/lang/Object;I)V"⟩, 3) := ⟨⟨by decide +kernel, by decide +kernel⟩, lw_t2 (List.mem_of_getElem? (i := 74) rfl), lw_t4 (List.mem_of_getElem? (i := 147) rfl), lw_t4 (List.mem_of_getElem? (i := 148) rfl)⟩
theorem lw_p29 : lw_okq (⟨"java/util/ArrayList", "grow", "()[Ljava/lang/Object;"⟩, 3) := ⟨⟨by decide +kernel, by decide +kernel⟩, lw_t2 (List.mem_of_getElem? (i := 74) rfl), lw_t4 (List.mem_of_getElem? (i := 151) rfl), lw_t4 (List.mem_of_getElem? (i := 152) rfl)⟩
theorem lw_p30 : lw_okq (⟨"java/util/ArrayList", "grow", "(I)[Ljava/lang/Object;"⟩, 3) := ⟨⟨by decide +kernel, by decide +kernel⟩, lw_t2 (List.mem_of_getElem? (i := 74) rfl), lw_t4 (List.mem_of_getElem? (i := 155) rfl), lw_t4 (List.mem_of_getElem? (i := 156) rfl)⟩
theorem lw_p31 : lw_okq (⟨"TourRooms", "lays", "(I)LTourRooms$Town;"⟩, 39) := ⟨⟨by decide +kernel, by decide +kernel⟩, lw_t1 (List.mem_of_getElem? (i := 36) rfl), lw_t4 (List.mem_of_getElem? (i := 204) rfl), lw_t4 (List.mem_of_getElem? (i := 205) rfl)⟩
def lw_privs_2 : List (MethodName × Nat) := [(⟨"TourRooms$Reader", "at", "(I)I"⟩, 6), (⟨"TourRooms$Reader", "isLetter", "(I)Z"⟩, 6), (⟨"TourRooms$Reader", "isDigit", "(I)Z"⟩, 6), (⟨"TourRooms$Reader", "which", "(Ljava/lang/String;)I"⟩, 6), (⟨"TourRooms$Reader", "wrong", "(I)LTourRooms$Wrong;"⟩, 6), (⟨"java/lang/Throwable", "fillInStackTrace", "(I)Ljava/lang/Throwable;"⟩, 6), (⟨"TourRooms$Reader", "e", "()LTourRooms$Exp;"⟩, 6), (⟨"TourRooms$Reader", "test", "()LTourRooms$Exp;"⟩, 6), (⟨"TourRooms$Reader", "sum", "()LTourRooms$Exp;"⟩, 6), (⟨"TourRooms$Reader", "part", "()LTourRooms$Exp;"⟩, 6), (⟨"TourRooms$Reader", "isSign", "(C)Z"⟩, 6), (⟨"TourRooms$Reader", "need", "(C)V"⟩, 6), (⟨"java/util/ArrayList", "add", "(Ljava/lang/Object;[Ljava/lang/Object;I)V"⟩, 3), (⟨"java/util/ArrayList", "grow", "()[Ljava/lang/Object;"⟩, 3), (⟨"java/util/ArrayList", "grow", "(I)[Ljava/lang/Object;"⟩, 3), (⟨"TourRooms", "lays", "(I)LTourRooms$Town;"⟩, 39)]
theorem lw_r2 : ∀ q ∈ lw_privs_2, lw_okq q := List.forall_mem_cons.mpr ⟨lw_p16, List.forall_mem_cons.mpr ⟨lw_p17, List.forall_mem_cons.mpr ⟨lw_p18, List.forall_mem_cons.mpr ⟨lw_p19, List.forall_mem_cons.mpr ⟨lw_p20, List.forall_mem_cons.mpr ⟨lw_p21, List.forall_mem_cons.mpr ⟨lw_p22, List.forall_mem_cons.mpr ⟨lw_p23, List.forall_mem_cons.mpr ⟨lw_p24, List.forall_mem_cons.mpr ⟨lw_p25, List.forall_mem_cons.mpr ⟨lw_p26, List.forall_mem_cons.mpr ⟨lw_p27, List.forall_mem_cons.mpr ⟨lw_p28, List.forall_mem_cons.mpr ⟨lw_p29, List.forall_mem_cons.mpr ⟨lw_p30, List.forall_mem_cons.mpr ⟨lw_p31, fun _ h => absurd h List.not_mem_nil⟩⟩⟩⟩⟩⟩⟩⟩⟩⟩⟩⟩⟩⟩⟩⟩
theorem lw_p32 : lw_okq (⟨"TourRooms", "worthOf", "(LTourRooms$Town;I)I"⟩, 39) := ⟨⟨by decide +kernel, by decide +kernel⟩, lw_t1 (List.mem_of_getElem? (i := 36) rfl), lw_t4 (List.mem_of_getElem? (i := 220) rfl), lw_t4 (List.mem_of_getElem? (i := 221) rfl)⟩
theorem lw_p33 : lw_okq (⟨"TourRooms", "costs", "(III)I"⟩, 39) := ⟨⟨by decide +kernel, by decide +kernel⟩, lw_t1 (List.mem_of_getElem? (i := 36) rfl), lw_t5 (List.mem_of_getElem? (i := 31) rfl), lw_t5 (List.mem_of_getElem? (i := 32) rfl)⟩
theorem lw_p34 : lw_okq (⟨"TourRooms", "isLoss", "(IIIII)Z"⟩, 39) := ⟨⟨by decide +kernel, by decide +kernel⟩, lw_t1 (List.mem_of_getElem? (i := 36) rfl), lw_t5 (List.mem_of_getElem? (i := 43) rfl), lw_t5 (List.mem_of_getElem? (i := 44) rfl)⟩
theorem lw_p35 : lw_okq (⟨"TourRooms", "lossOf", "(LTourRooms$Town;IIIII)I"⟩, 39) := ⟨⟨by decide +kernel, by decide +kernel⟩, lw_t1 (List.mem_of_getElem? (i := 36) rfl), lw_t5 (List.mem_of_getElem? (i := 47) rfl), lw_t5 (List.mem_of_getElem? (i := 48) rfl)⟩
theorem lw_p36 : lw_okq (⟨"TourRooms", "worstOf", "(IIIII)I"⟩, 39) := ⟨⟨by decide +kernel, by decide +kernel⟩, lw_t1 (List.mem_of_getElem? (i := 36) rfl), lw_t5 (List.mem_of_getElem? (i := 51) rfl), lw_t5 (List.mem_of_getElem? (i := 52) rfl)⟩
theorem lw_p37 : lw_okq (⟨"TourRooms", "goes", "(IIIIII)V"⟩, 39) := ⟨⟨by decide +kernel, by decide +kernel⟩, lw_t1 (List.mem_of_getElem? (i := 36) rfl), lw_t5 (List.mem_of_getElem? (i := 76) rfl), lw_t5 (List.mem_of_getElem? (i := 77) rfl)⟩
theorem lw_p38 : lw_okq (⟨"TourRooms", "home", "(IIIIII)V"⟩, 39) := ⟨⟨by decide +kernel, by decide +kernel⟩, lw_t1 (List.mem_of_getElem? (i := 36) rfl), lw_t5 (List.mem_of_getElem? (i := 80) rfl), lw_t5 (List.mem_of_getElem? (i := 81) rfl)⟩
theorem lw_p39 : lw_okq (⟨"TourRooms", "isBetter", "(III)Z"⟩, 39) := ⟨⟨by decide +kernel, by decide +kernel⟩, lw_t1 (List.mem_of_getElem? (i := 36) rfl), lw_t5 (List.mem_of_getElem? (i := 84) rfl), lw_t5 (List.mem_of_getElem? (i := 85) rfl)⟩
theorem lw_p40 : lw_okq (⟨"TourRooms", "townOfNight", "(I)I"⟩, 39) := ⟨⟨by decide +kernel, by decide +kernel⟩, lw_t1 (List.mem_of_getElem? (i := 36) rfl), lw_t5 (List.mem_of_getElem? (i := 96) rfl), lw_t5 (List.mem_of_getElem? (i := 97) rfl)⟩
theorem lw_p41 : lw_okq (⟨"TourRooms", "billOf", "(LTourRooms$Town;I)I"⟩, 39) := ⟨⟨by decide +kernel, by decide +kernel⟩, lw_t1 (List.mem_of_getElem? (i := 36) rfl), lw_t5 (List.mem_of_getElem? (i := 100) rfl), lw_t5 (List.mem_of_getElem? (i := 101) rfl)⟩
theorem lw_p42 : lw_okq (⟨"TourRoomsModel", "isPerson", "(I)Z"⟩, 78) := ⟨⟨by decide +kernel, by decide +kernel⟩, lw_t5 (List.mem_of_getElem? (i := 168) rfl), lw_t6 (List.mem_of_getElem? (i := 180) rfl), lw_t6 (List.mem_of_getElem? (i := 181) rfl)⟩
theorem lw_p43 : lw_okq (⟨"TourRoomsModel", "leaves", "(III)Z"⟩, 78) := ⟨⟨by decide +kernel, by decide +kernel⟩, lw_t5 (List.mem_of_getElem? (i := 168) rfl), lw_t6 (List.mem_of_getElem? (i := 192) rfl), lw_t6 (List.mem_of_getElem? (i := 193) rfl)⟩
theorem lw_p44 : lw_okq (⟨"TourRoomsModel", "isOver", "(I)Z"⟩, 78) := ⟨⟨by decide +kernel, by decide +kernel⟩, lw_t5 (List.mem_of_getElem? (i := 168) rfl), lw_t6 (List.mem_of_getElem? (i := 196) rfl), lw_t6 (List.mem_of_getElem? (i := 197) rfl)⟩
theorem lw_p45 : lw_okq (⟨"TourRoomsModel", "notes", "(III)V"⟩, 78) := ⟨⟨by decide +kernel, by decide +kernel⟩, lw_t5 (List.mem_of_getElem? (i := 168) rfl), lw_t6 (List.mem_of_getElem? (i := 200) rfl), lw_t6 (List.mem_of_getElem? (i := 201) rfl)⟩
theorem lw_p46 : lw_okq (⟨"TourRoomsModel", "isOpen", "(I)Z"⟩, 78) := ⟨⟨by decide +kernel, by decide +kernel⟩, lw_t5 (List.mem_of_getElem? (i := 168) rfl), lw_t6 (List.mem_of_getElem? (i := 232) rfl), lw_t6 (List.mem_of_getElem? (i := 233) rfl)⟩
theorem lw_p47 : lw_okq (⟨"TourRoomsModel", "isTown", "(I)Z"⟩, 78) := ⟨⟨by decide +kernel, by decide +kernel⟩, lw_t5 (List.mem_of_getElem? (i := 168) rfl), lw_t6 (List.mem_of_getElem? (i := 236) rfl), lw_t6 (List.mem_of_getElem? (i := 237) rfl)⟩
def lw_privs_3 : List (MethodName × Nat) := [(⟨"TourRooms", "worthOf", "(LTourRooms$Town;I)I"⟩, 39), (⟨"TourRooms", "costs", "(III)I"⟩, 39), (⟨"TourRooms", "isLoss", "(IIIII)Z"⟩, 39), (⟨"TourRooms", "lossOf", "(LTourRooms$Town;IIIII)I"⟩, 39), (⟨"TourRooms", "worstOf", "(IIIII)I"⟩, 39), (⟨"TourRooms", "goes", "(IIIIII)V"⟩, 39), (⟨"TourRooms", "home", "(IIIIII)V"⟩, 39), (⟨"TourRooms", "isBetter", "(III)Z"⟩, 39), (⟨"TourRooms", "townOfNight", "(I)I"⟩, 39), (⟨"TourRooms", "billOf", "(LTourRooms$Town;I)I"⟩, 39), (⟨"TourRoomsModel", "isPerson", "(I)Z"⟩, 78), (⟨"TourRoomsModel", "leaves", "(III)Z"⟩, 78), (⟨"TourRoomsModel", "isOver", "(I)Z"⟩, 78), (⟨"TourRoomsModel", "notes", "(III)V"⟩, 78), (⟨"TourRoomsModel", "isOpen", "(I)Z"⟩, 78), (⟨"TourRoomsModel", "isTown", "(I)Z"⟩, 78)]
theorem lw_r3 : ∀ q ∈ lw_privs_3, lw_okq q := List.forall_mem_cons.mpr ⟨lw_p32, List.forall_mem_cons.mpr ⟨lw_p33, List.forall_mem_cons.mpr ⟨lw_p34, List.forall_mem_cons.mpr ⟨lw_p35, List.forall_mem_cons.mpr ⟨lw_p36, List.forall_mem_cons.mpr ⟨lw_p37, List.forall_mem_cons.mpr ⟨lw_p38, List.forall_mem_cons.mpr ⟨lw_p39, List.forall_mem_cons.mpr ⟨lw_p40, List.forall_mem_cons.mpr ⟨lw_p41, List.forall_mem_cons.mpr ⟨lw_p42, List.forall_mem_cons.mpr ⟨lw_p43, List.forall_mem_cons.mpr ⟨lw_p44, List.forall_mem_cons.mpr ⟨lw_p45, List.forall_mem_cons.mpr ⟨lw_p46, List.forall_mem_cons.mpr ⟨lw_p47, fun _ h => absurd h List.not_mem_nil⟩⟩⟩⟩⟩⟩⟩⟩⟩⟩⟩⟩⟩⟩⟩⟩
theorem lw_p48 : lw_okq (⟨"TourRoomsModel", "isThere", "(II)Z"⟩, 78) := ⟨⟨by decide +kernel, by decide +kernel⟩, lw_t5 (List.mem_of_getElem? (i := 168) rfl), lw_t7 (List.mem_of_getElem? (i := 4) rfl), lw_t7 (List.mem_of_getElem? (i := 5) rfl)⟩
theorem lw_p49 : lw_okq (⟨"TourRoomsModel", "isRoom", "(II)Z"⟩, 78) := ⟨⟨by decide +kernel, by decide +kernel⟩, lw_t5 (List.mem_of_getElem? (i := 168) rfl), lw_t7 (List.mem_of_getElem? (i := 8) rfl), lw_t7 (List.mem_of_getElem? (i := 9) rfl)⟩
theorem lw_p50 : lw_okq (⟨"TourRoomsModel", "setIn", "(II)I"⟩, 78) := ⟨⟨by decide +kernel, by decide +kernel⟩, lw_t5 (List.mem_of_getElem? (i := 168) rfl), lw_t7 (List.mem_of_getElem? (i := 12) rfl), lw_t7 (List.mem_of_getElem? (i := 13) rfl)⟩
theorem lw_p51 : lw_okq (⟨"TourRoomsModel", "mayShare", "(II)Z"⟩, 78) := ⟨⟨by decide +kernel, by decide +kernel⟩, lw_t5 (List.mem_of_getElem? (i := 168) rfl), lw_t7 (List.mem_of_getElem? (i := 16) rfl), lw_t7 (List.mem_of_getElem? (i := 17) rfl)⟩
theorem lw_p52 : lw_okq (⟨"TourRoomsModel", "findSets", "(I)V"⟩, 78) := ⟨⟨by decide +kernel, by decide +kernel⟩, lw_t5 (List.mem_of_getElem? (i := 168) rfl), lw_t7 (List.mem_of_getElem? (i := 24) rfl), lw_t7 (List.mem_of_getElem? (i := 25) rfl)⟩
theorem lw_p53 : lw_okq (⟨"TourRoomsModel", "there", "(I)I"⟩, 78) := ⟨⟨by decide +kernel, by decide +kernel⟩, lw_t5 (List.mem_of_getElem? (i := 168) rfl), lw_t7 (List.mem_of_getElem? (i := 28) rfl), lw_t7 (List.mem_of_getElem? (i := 29) rfl)⟩
theorem lw_p54 : lw_okq (⟨"TourRoomsModel", "mayBe", "(III)Z"⟩, 78) := ⟨⟨by decide +kernel, by decide +kernel⟩, lw_t5 (List.mem_of_getElem? (i := 168) rfl), lw_t7 (List.mem_of_getElem? (i := 32) rfl), lw_t7 (List.mem_of_getElem? (i := 33) rfl)⟩
theorem lw_p55 : lw_okq (⟨"TourRoomsModel", "weight", "(IIII)I"⟩, 78) := ⟨⟨by decide +kernel, by decide +kernel⟩, lw_t5 (List.mem_of_getElem? (i := 168) rfl), lw_t7 (List.mem_of_getElem? (i := 37) rfl), lw_t7 (List.mem_of_getElem? (i := 38) rfl)⟩
theorem lw_p56 : lw_okq (⟨"TourRoomsModel", "movedBy", "(III)I"⟩, 78) := ⟨⟨by decide +kernel, by decide +kernel⟩, lw_t5 (List.mem_of_getElem? (i := 168) rfl), lw_t7 (List.mem_of_getElem? (i := 41) rfl), lw_t7 (List.mem_of_getElem? (i := 42) rfl)⟩
theorem lw_p57 : lw_okq (⟨"TourRoomsModel", "takes", "(III)I"⟩, 78) := ⟨⟨by decide +kernel, by decide +kernel⟩, lw_t5 (List.mem_of_getElem? (i := 168) rfl), lw_t7 (List.mem_of_getElem? (i := 46) rfl), lw_t7 (List.mem_of_getElem? (i := 47) rfl)⟩
theorem lw_p58 : lw_okq (⟨"TourRoomsModel", "isLeast", "(IIIII)Z"⟩, 78) := ⟨⟨by decide +kernel, by decide +kernel⟩, lw_t5 (List.mem_of_getElem? (i := 168) rfl), lw_t7 (List.mem_of_getElem? (i := 50) rfl), lw_t7 (List.mem_of_getElem? (i := 51) rfl)⟩
theorem lw_p59 : lw_okq (⟨"TourRoomsModel", "goes", "(I)V"⟩, 78) := ⟨⟨by decide +kernel, by decide +kernel⟩, lw_t5 (List.mem_of_getElem? (i := 168) rfl), lw_t7 (List.mem_of_getElem? (i := 81) rfl), lw_t7 (List.mem_of_getElem? (i := 82) rfl)⟩
theorem lw_p60 : lw_okq (⟨"TourRoomsModel", "next", "()V"⟩, 78) := ⟨⟨by decide +kernel, by decide +kernel⟩, lw_t5 (List.mem_of_getElem? (i := 168) rfl), lw_t7 (List.mem_of_getElem? (i := 85) rfl), lw_t7 (List.mem_of_getElem? (i := 86) rfl)⟩
theorem lw_p61 : lw_okq (⟨"TourRoomsModel", "isSmall", "()Z"⟩, 78) := ⟨⟨by decide +kernel, by decide +kernel⟩, lw_t5 (List.mem_of_getElem? (i := 168) rfl), lw_t7 (List.mem_of_getElem? (i := 89) rfl), lw_t7 (List.mem_of_getElem? (i := 90) rfl)⟩
theorem lw_p62 : lw_okq (⟨"TourRoomsModel", "isDigit", "()Z"⟩, 78) := ⟨⟨by decide +kernel, by decide +kernel⟩, lw_t5 (List.mem_of_getElem? (i := 168) rfl), lw_t7 (List.mem_of_getElem? (i := 95) rfl), lw_t7 (List.mem_of_getElem? (i := 96) rfl)⟩
theorem lw_p63 : lw_okq (⟨"TourRoomsModel", "kindHere", "()I"⟩, 78) := ⟨⟨by decide +kernel, by decide +kernel⟩, lw_t5 (List.mem_of_getElem? (i := 168) rfl), lw_t7 (List.mem_of_getElem? (i := 108) rfl), lw_t7 (List.mem_of_getElem? (i := 109) rfl)⟩
def lw_privs_4 : List (MethodName × Nat) := [(⟨"TourRoomsModel", "isThere", "(II)Z"⟩, 78), (⟨"TourRoomsModel", "isRoom", "(II)Z"⟩, 78), (⟨"TourRoomsModel", "setIn", "(II)I"⟩, 78), (⟨"TourRoomsModel", "mayShare", "(II)Z"⟩, 78), (⟨"TourRoomsModel", "findSets", "(I)V"⟩, 78), (⟨"TourRoomsModel", "there", "(I)I"⟩, 78), (⟨"TourRoomsModel", "mayBe", "(III)Z"⟩, 78), (⟨"TourRoomsModel", "weight", "(IIII)I"⟩, 78), (⟨"TourRoomsModel", "movedBy", "(III)I"⟩, 78), (⟨"TourRoomsModel", "takes", "(III)I"⟩, 78), (⟨"TourRoomsModel", "isLeast", "(IIIII)Z"⟩, 78), (⟨"TourRoomsModel", "goes", "(I)V"⟩, 78), (⟨"TourRoomsModel", "next", "()V"⟩, 78), (⟨"TourRoomsModel", "isSmall", "()Z"⟩, 78), (⟨"TourRoomsModel", "isDigit", "()Z"⟩, 78), (⟨"TourRoomsModel", "kindHere", "()I"⟩, 78)]
theorem lw_r4 : ∀ q ∈ lw_privs_4, lw_okq q := List.forall_mem_cons.mpr ⟨lw_p48, List.forall_mem_cons.mpr ⟨lw_p49, List.forall_mem_cons.mpr ⟨lw_p50, List.forall_mem_cons.mpr ⟨lw_p51, List.forall_mem_cons.mpr ⟨lw_p52, List.forall_mem_cons.mpr ⟨lw_p53, List.forall_mem_cons.mpr ⟨lw_p54, List.forall_mem_cons.mpr ⟨lw_p55, List.forall_mem_cons.mpr ⟨lw_p56, List.forall_mem_cons.mpr ⟨lw_p57, List.forall_mem_cons.mpr ⟨lw_p58, List.forall_mem_cons.mpr ⟨lw_p59, List.forall_mem_cons.mpr ⟨lw_p60, List.forall_mem_cons.mpr ⟨lw_p61, List.forall_mem_cons.mpr ⟨lw_p62, List.forall_mem_cons.mpr ⟨lw_p63, fun _ h => absurd h List.not_mem_nil⟩⟩⟩⟩⟩⟩⟩⟩⟩⟩⟩⟩⟩⟩⟩⟩
theorem lw_p64 : lw_okq (⟨"TourRoomsModel", "isWord", "(J)Z"⟩, 78) := ⟨⟨by decide +kernel, by decide +kernel⟩, lw_t5 (List.mem_of_getElem? (i := 168) rfl), lw_t7 (List.mem_of_getElem? (i := 113) rfl), lw_t7 (List.mem_of_getElem? (i := 114) rfl)⟩
theorem lw_p65 : lw_okq (⟨"TourRoomsModel", "wrong", "(I)V"⟩, 78) := ⟨⟨by decide +kernel, by decide +kernel⟩, lw_t5 (List.mem_of_getElem? (i := 168) rfl), lw_t7 (List.mem_of_getElem? (i := 120) rfl), lw_t7 (List.mem_of_getElem? (i := 121) rfl)⟩
theorem lw_p66 : lw_okq (⟨"TourRoomsModel", "whole", "()I"⟩, 78) := ⟨⟨by decide +kernel, by decide +kernel⟩, lw_t5 (List.mem_of_getElem? (i := 168) rfl), lw_t7 (List.mem_of_getElem? (i := 124) rfl), lw_t7 (List.mem_of_getElem? (i := 125) rfl)⟩
theorem lw_p67 : lw_okq (⟨"TourRoomsModel", "test", "()I"⟩, 78) := ⟨⟨by decide +kernel, by decide +kernel⟩, lw_t5 (List.mem_of_getElem? (i := 168) rfl), lw_t7 (List.mem_of_getElem? (i := 128) rfl), lw_t7 (List.mem_of_getElem? (i := 129) rfl)⟩
theorem lw_p68 : lw_okq (⟨"TourRoomsModel", "sum", "()I"⟩, 78) := ⟨⟨by decide +kernel, by decide +kernel⟩, lw_t5 (List.mem_of_getElem? (i := 168) rfl), lw_t7 (List.mem_of_getElem? (i := 132) rfl), lw_t7 (List.mem_of_getElem? (i := 133) rfl)⟩
theorem lw_p69 : lw_okq (⟨"TourRoomsModel", "part", "()I"⟩, 78) := ⟨⟨by decide +kernel, by decide +kernel⟩, lw_t5 (List.mem_of_getElem? (i := 168) rfl), lw_t7 (List.mem_of_getElem? (i := 136) rfl), lw_t7 (List.mem_of_getElem? (i := 137) rfl)⟩
theorem lw_p70 : lw_okq (⟨"TourRoomsModel", "isSign", "(I)Z"⟩, 78) := ⟨⟨by decide +kernel, by decide +kernel⟩, lw_t5 (List.mem_of_getElem? (i := 168) rfl), lw_t7 (List.mem_of_getElem? (i := 140) rfl), lw_t7 (List.mem_of_getElem? (i := 141) rfl)⟩
theorem lw_p71 : lw_okq (⟨"TourRoomsModel", "now", "(II)I"⟩, 78) := ⟨⟨by decide +kernel, by decide +kernel⟩, lw_t5 (List.mem_of_getElem? (i := 168) rfl), lw_t7 (List.mem_of_getElem? (i := 155) rfl), lw_t7 (List.mem_of_getElem? (i := 156) rfl)⟩
theorem lw_p72 : lw_okq (⟨"TourRoomsModel", "heldIn", "(I)I"⟩, 78) := ⟨⟨by decide +kernel, by decide +kernel⟩, lw_t5 (List.mem_of_getElem? (i := 168) rfl), lw_t7 (List.mem_of_getElem? (i := 159) rfl), lw_t7 (List.mem_of_getElem? (i := 160) rfl)⟩
theorem lw_p73 : lw_okq (⟨"TourRoomsModel", "usedIn", "(I)I"⟩, 78) := ⟨⟨by decide +kernel, by decide +kernel⟩, lw_t5 (List.mem_of_getElem? (i := 168) rfl), lw_t7 (List.mem_of_getElem? (i := 163) rfl), lw_t7 (List.mem_of_getElem? (i := 164) rfl)⟩
theorem lw_p74 : lw_okq (⟨"TourRoomsModel", "peopleIn", "(I)I"⟩, 78) := ⟨⟨by decide +kernel, by decide +kernel⟩, lw_t5 (List.mem_of_getElem? (i := 168) rfl), lw_t7 (List.mem_of_getElem? (i := 167) rfl), lw_t7 (List.mem_of_getElem? (i := 168) rfl)⟩
theorem lw_p75 : lw_okq (⟨"TourRoomsModel", "told", "(II)I"⟩, 78) := ⟨⟨by decide +kernel, by decide +kernel⟩, lw_t5 (List.mem_of_getElem? (i := 168) rfl), lw_t7 (List.mem_of_getElem? (i := 171) rfl), lw_t7 (List.mem_of_getElem? (i := 172) rfl)⟩
theorem lw_p76 : lw_okq (⟨"TourRoomsModel", "part", "(III)I"⟩, 78) := ⟨⟨by decide +kernel, by decide +kernel⟩, lw_t5 (List.mem_of_getElem? (i := 168) rfl), lw_t7 (List.mem_of_getElem? (i := 179) rfl), lw_t7 (List.mem_of_getElem? (i := 180) rfl)⟩
theorem lw_p77 : lw_okq (⟨"TourRoomsModel", "isLoss", "(IIIII)Z"⟩, 78) := ⟨⟨by decide +kernel, by decide +kernel⟩, lw_t5 (List.mem_of_getElem? (i := 168) rfl), lw_t7 (List.mem_of_getElem? (i := 191) rfl), lw_t7 (List.mem_of_getElem? (i := 192) rfl)⟩
theorem lw_p78 : lw_okq (⟨"TourRoomsModel", "losses", "(IIIII)V"⟩, 78) := ⟨⟨by decide +kernel, by decide +kernel⟩, lw_t5 (List.mem_of_getElem? (i := 168) rfl), lw_t7 (List.mem_of_getElem? (i := 195) rfl), lw_t7 (List.mem_of_getElem? (i := 196) rfl)⟩
theorem lw_p79 : lw_okq (⟨"TourRoomsModel", "goesOn", "(IIIIIII)V"⟩, 78) := ⟨⟨by decide +kernel, by decide +kernel⟩, lw_t5 (List.mem_of_getElem? (i := 168) rfl), lw_t7 (List.mem_of_getElem? (i := 219) rfl), lw_t7 (List.mem_of_getElem? (i := 220) rfl)⟩
def lw_privs_5 : List (MethodName × Nat) := [(⟨"TourRoomsModel", "isWord", "(J)Z"⟩, 78), (⟨"TourRoomsModel", "wrong", "(I)V"⟩, 78), (⟨"TourRoomsModel", "whole", "()I"⟩, 78), (⟨"TourRoomsModel", "test", "()I"⟩, 78), (⟨"TourRoomsModel", "sum", "()I"⟩, 78), (⟨"TourRoomsModel", "part", "()I"⟩, 78), (⟨"TourRoomsModel", "isSign", "(I)Z"⟩, 78), (⟨"TourRoomsModel", "now", "(II)I"⟩, 78), (⟨"TourRoomsModel", "heldIn", "(I)I"⟩, 78), (⟨"TourRoomsModel", "usedIn", "(I)I"⟩, 78), (⟨"TourRoomsModel", "peopleIn", "(I)I"⟩, 78), (⟨"TourRoomsModel", "told", "(II)I"⟩, 78), (⟨"TourRoomsModel", "part", "(III)I"⟩, 78), (⟨"TourRoomsModel", "isLoss", "(IIIII)Z"⟩, 78), (⟨"TourRoomsModel", "losses", "(IIIII)V"⟩, 78), (⟨"TourRoomsModel", "goesOn", "(IIIIIII)V"⟩, 78)]
theorem lw_r5 : ∀ q ∈ lw_privs_5, lw_okq q := List.forall_mem_cons.mpr ⟨lw_p64, List.forall_mem_cons.mpr ⟨lw_p65, List.forall_mem_cons.mpr ⟨lw_p66, List.forall_mem_cons.mpr ⟨lw_p67, List.forall_mem_cons.mpr ⟨lw_p68, List.forall_mem_cons.mpr ⟨lw_p69, List.forall_mem_cons.mpr ⟨lw_p70, List.forall_mem_cons.mpr ⟨lw_p71, List.forall_mem_cons.mpr ⟨lw_p72, List.forall_mem_cons.mpr ⟨lw_p73, List.forall_mem_cons.mpr ⟨lw_p74, List.forall_mem_cons.mpr ⟨lw_p75, List.forall_mem_cons.mpr ⟨lw_p76, List.forall_mem_cons.mpr ⟨lw_p77, List.forall_mem_cons.mpr ⟨lw_p78, List.forall_mem_cons.mpr ⟨lw_p79, fun _ h => absurd h List.not_mem_nil⟩⟩⟩⟩⟩⟩⟩⟩⟩⟩⟩⟩⟩⟩⟩⟩
theorem lw_p80 : lw_okq (⟨"TourRoomsModel", "home", "(IIIIII)V"⟩, 78) := ⟨⟨by decide +kernel, by decide +kernel⟩, lw_t5 (List.mem_of_getElem? (i := 168) rfl), lw_t7 (List.mem_of_getElem? (i := 223) rfl), lw_t7 (List.mem_of_getElem? (i := 224) rfl)⟩
theorem lw_p81 : lw_okq (⟨"TourRoomsModel", "townAt", "(I)I"⟩, 78) := ⟨⟨by decide +kernel, by decide +kernel⟩, lw_t5 (List.mem_of_getElem? (i := 168) rfl), lw_t7 (List.mem_of_getElem? (i := 235) rfl), lw_t7 (List.mem_of_getElem? (i := 236) rfl)⟩
theorem lw_p82 : lw_okq (⟨"TourRoomsModel", "billOf", "(I)I"⟩, 78) := ⟨⟨by decide +kernel, by decide +kernel⟩, lw_t5 (List.mem_of_getElem? (i := 168) rfl), lw_t8 (List.mem_of_getElem? (i := 0) rfl), lw_t8 (List.mem_of_getElem? (i := 1) rfl)⟩
theorem lw_p83 : lw_okq (⟨"TourRoomsModel", "owes", "(IIII)V"⟩, 78) := ⟨⟨by decide +kernel, by decide +kernel⟩, lw_t5 (List.mem_of_getElem? (i := 168) rfl), lw_t8 (List.mem_of_getElem? (i := 4) rfl), lw_t8 (List.mem_of_getElem? (i := 5) rfl)⟩
theorem lw_p84 : lw_okq (⟨"TourRoomsModel", "costOf", "(I)I"⟩, 78) := ⟨⟨by decide +kernel, by decide +kernel⟩, lw_t5 (List.mem_of_getElem? (i := 168) rfl), lw_t8 (List.mem_of_getElem? (i := 28) rfl), lw_t8 (List.mem_of_getElem? (i := 29) rfl)⟩
def lw_privs_6 : List (MethodName × Nat) := [(⟨"TourRoomsModel", "home", "(IIIIII)V"⟩, 78), (⟨"TourRoomsModel", "townAt", "(I)I"⟩, 78), (⟨"TourRoomsModel", "billOf", "(I)I"⟩, 78), (⟨"TourRoomsModel", "owes", "(IIII)V"⟩, 78), (⟨"TourRoomsModel", "costOf", "(I)I"⟩, 78)]
theorem lw_r6 : ∀ q ∈ lw_privs_6, lw_okq q := List.forall_mem_cons.mpr ⟨lw_p80, List.forall_mem_cons.mpr ⟨lw_p81, List.forall_mem_cons.mpr ⟨lw_p82, List.forall_mem_cons.mpr ⟨lw_p83, List.forall_mem_cons.mpr ⟨lw_p84, fun _ h => absurd h List.not_mem_nil⟩⟩⟩⟩⟩
def lw_privs : List (MethodName × Nat) := lw_privs_1 ++ (lw_privs_2 ++ (lw_privs_3 ++ (lw_privs_4 ++ (lw_privs_5 ++ (lw_privs_6)))))
def lw_tbl : List Cond := k2_sels lw_privs ++ tables_1
theorem lw_privs_ok : ∀ q ∈ lw_privs, lw_okq q := by
  show ∀ q ∈ lw_privs_1 ++ (lw_privs_2 ++ (lw_privs_3 ++ (lw_privs_4 ++ (lw_privs_5 ++ (lw_privs_6))))), lw_okq q
  exact List.forall_mem_append.mpr ⟨lw_r1, List.forall_mem_append.mpr ⟨lw_r2, List.forall_mem_append.mpr ⟨lw_r3, List.forall_mem_append.mpr ⟨lw_r4, List.forall_mem_append.mpr ⟨lw_r5, lw_r6⟩⟩⟩⟩⟩
-- ===== ONE list of words for every method: the tables' words that hold all through a run =====
def lw_all : List Cond := lw_tbl.filter goodWord
/-- a word of the tables by its place: claim/WORDS.tsv -/
theorem lw_w {w : Cond} (i : Nat) (h : lw_tbl[i]? = some w) (g : goodWord w = true) : w ∈ lw_all := List.mem_filter.mpr ⟨List.mem_of_getElem? h, g⟩
theorem lw_all_tbl {w : Cond} (h : w ∈ lw_all) : w ∈ lw_tbl := (List.mem_filter.mp h).1
theorem lw_self : GoodIn lw_all lw_all := fun w h => ⟨h, good_of_word (List.mem_filter.mp h).2⟩
/-- a class's field words, by their places -/
theorem lw_in (ws : List Cond) (ps : List Nat) (hp : ws = ps.filterMap (fun i => lw_tbl[i]?)) (hg : ws.all goodWord = true) : ∀ w ∈ ws, w ∈ lw_all := by
  intro w h
  have h1 := List.all_eq_true.mp hg w h
  rw [hp] at h
  obtain ⟨i, -, hi⟩ := List.mem_filterMap.mp h
  exact lw_w i hi h1
/-- the words of a contract for the method y with code b, L locals, answer r -/
abbrev ws_ (y : MethodName) (b : ByteArray) (L : Nat) (r : Option FieldType) : List Cond := Cond.code y b L r :: lw_all
theorem lw_meth {y : MethodName} {b : ByteArray} {L : Nat} {r : Option FieldType} (h : Cond.code y b L r ∈ lw_all) : GoodIn lw_all (ws_ y b L r) := by
  intro w hw
  rcases List.mem_cons.mp hw with e | e
  · rw [e]
    exact lw_self _ h
  · exact lw_self _ e
theorem lw_app {a c : List Cond} (ha : ∀ w ∈ a, w ∈ lw_all) (hc : GoodIn lw_all c) : GoodIn lw_all (a ++ c) := by
  intro w hw
  rcases List.mem_append.mp hw with e | e
  · exact lw_self w (ha w e)
  · exact hc w e
/-- what a call through an object asks: cwV n hts (lw_V ..) -/
theorem lw_V {own : String} {idx : Nat} {C : String} {y : MethodName} {b : ByteArray} {L : Nat} {r : Option FieldType} (h1 : Cond.methodLink own idx y ∈ lw_all) (h2 : Cond.instanceMethod y ∈ lw_all) (h3 : Cond.selects C y y ∈ lw_all) (h4 : Cond.initialized C ∈ lw_all) (h5 : Cond.code y b L r ∈ lw_all) : GoodIn lw_all (wsV own idx C y (ws_ y b L r)) := by
  refine lw_app ?_ (lw_meth h5)
  intro w hw
  simp only [List.mem_cons, List.not_mem_nil, or_false] at hw
  rcases hw with e | e | e | e
  · rw [e]; exact h1
  · rw [e]; exact h2
  · rw [e]; exact h3
  · rw [e]; exact h4
/-- what a static call asks: va_cwS n hts (lw_S ..) -/
theorem lw_S {own : String} {idx : Nat} {y : MethodName} {b : ByteArray} {L : Nat} {r : Option FieldType} (h1 : Cond.methodLink own idx y ∈ lw_all) (h2 : Cond.static y ∈ lw_all) (h3 : Cond.initialized y.cls ∈ lw_all) (h4 : Cond.code y b L r ∈ lw_all) : GoodIn lw_all (va_wsS own idx y (ws_ y b L r)) := by
  refine lw_app ?_ (lw_meth h4)
  intro w hw
  simp only [List.mem_cons, List.not_mem_nil, or_false] at hw
  rcases hw with e | e | e
  · rw [e]; exact h1
  · rw [e]; exact h2
  · rw [e]; exact h3
/-- the words of a contract for a method WITH HANDLERS (hh: its table) -/
abbrev wsW_ (y : MethodName) (b : ByteArray) (L : Nat) (r : Option FieldType) (hh : List (Nat × Nat × Nat × Nat)) : List Cond := Cond.codeWith y b L r hh :: lw_all
theorem lw_methW {y : MethodName} {b : ByteArray} {L : Nat} {r : Option FieldType} {hh : List (Nat × Nat × Nat × Nat)} (h : Cond.codeWith y b L r hh ∈ lw_all) : GoodIn lw_all (wsW_ y b L r hh) := by
  intro w hw
  rcases List.mem_cons.mp hw with e | e
  · rw [e]
    exact lw_self _ h
  · exact lw_self _ e
/-- any list of words by their places (lw_in), good -/
theorem lw_good {ws : List Cond} (h : ∀ w ∈ ws, w ∈ lw_all) : GoodIn lw_all ws := fun w hw => lw_self w (h w hw)
/-- what a call of a method with handlers asks: vx_cwVW n hts (lw_VW ..), vx_cwSW n hts (lw_SW ..) -/
theorem lw_VW {own : String} {idx : Nat} {C : String} {y : MethodName} {b : ByteArray} {L : Nat} {r : Option FieldType} {hh : List (Nat × Nat × Nat × Nat)} (h1 : Cond.methodLink own idx y ∈ lw_all) (h2 : Cond.instanceMethod y ∈ lw_all) (h3 : Cond.selects C y y ∈ lw_all) (h4 : Cond.initialized C ∈ lw_all) (h5 : Cond.codeWith y b L r hh ∈ lw_all) : GoodIn lw_all (wsV own idx C y (wsW_ y b L r hh)) := by
  refine lw_app ?_ (lw_methW h5)
  intro w hw
  simp only [List.mem_cons, List.not_mem_nil, or_false] at hw
  rcases hw with e | e | e | e
  · rw [e]; exact h1
  · rw [e]; exact h2
  · rw [e]; exact h3
  · rw [e]; exact h4
theorem lw_SW {own : String} {idx : Nat} {y : MethodName} {b : ByteArray} {L : Nat} {r : Option FieldType} {hh : List (Nat × Nat × Nat × Nat)} (h1 : Cond.methodLink own idx y ∈ lw_all) (h2 : Cond.static y ∈ lw_all) (h3 : Cond.initialized y.cls ∈ lw_all) (h4 : Cond.codeWith y b L r hh ∈ lw_all) : GoodIn lw_all (va_wsS own idx y (wsW_ y b L r hh)) := by
  refine lw_app ?_ (lw_methW h4)
  intro w hw
  simp only [List.mem_cons, List.not_mem_nil, or_false] at hw
  rcases hw with e | e | e
  · rw [e]; exact h1
  · rw [e]; exact h2
  · rw [e]; exact h3
/-- a word by its place in its run of the tables -/
theorem lw_at {r : List Cond} (hr : ∀ w ∈ r, w ∈ lw_tbl) {w : Cond} (i : Nat) (h : r[i]? = some w) : w ∈ lw_tbl := hr w (List.mem_of_getElem? h)
theorem lw_g {w : Cond} (h : w ∈ lw_tbl) (g : goodWord w = true) : w ∈ lw_all := List.mem_filter.mpr ⟨h, g⟩
theorem lw_ms : ∀ w ∈ k2_sels lw_privs, w ∈ lw_tbl := fun w h => show w ∈ k2_sels lw_privs ++ tables_1 from List.mem_append_left _ h
theorem lw_m1 : ∀ w ∈ tables_1_1, w ∈ lw_tbl := fun w h => show w ∈ k2_sels lw_privs ++ tables_1 from List.mem_append_right (k2_sels lw_privs) (show w ∈ tables_1 from List.mem_append_left _ h)
theorem lw_m2 : ∀ w ∈ tables_1_2, w ∈ lw_tbl := fun w h => show w ∈ k2_sels lw_privs ++ tables_1 from List.mem_append_right (k2_sels lw_privs) (show w ∈ tables_1 from List.mem_append_right _ (List.mem_append_left _ h))
theorem lw_m3 : ∀ w ∈ tables_1_3, w ∈ lw_tbl := fun w h => show w ∈ k2_sels lw_privs ++ tables_1 from List.mem_append_right (k2_sels lw_privs) (show w ∈ tables_1 from List.mem_append_right _ (List.mem_append_right _ (List.mem_append_left _ h)))
theorem lw_m4 : ∀ w ∈ tables_1_4, w ∈ lw_tbl := fun w h => show w ∈ k2_sels lw_privs ++ tables_1 from List.mem_append_right (k2_sels lw_privs) (show w ∈ tables_1 from List.mem_append_right _ (List.mem_append_right _ (List.mem_append_right _ (List.mem_append_left _ h))))
theorem lw_m5 : ∀ w ∈ tables_1_5, w ∈ lw_tbl := fun w h => show w ∈ k2_sels lw_privs ++ tables_1 from List.mem_append_right (k2_sels lw_privs) (show w ∈ tables_1 from List.mem_append_right _ (List.mem_append_right _ (List.mem_append_right _ (List.mem_append_right _ (List.mem_append_left _ h)))))
theorem lw_m6 : ∀ w ∈ tables_1_6, w ∈ lw_tbl := fun w h => show w ∈ k2_sels lw_privs ++ tables_1 from List.mem_append_right (k2_sels lw_privs) (show w ∈ tables_1 from List.mem_append_right _ (List.mem_append_right _ (List.mem_append_right _ (List.mem_append_right _ (List.mem_append_right _ (List.mem_append_left _ h))))))
theorem lw_m7 : ∀ w ∈ tables_1_7, w ∈ lw_tbl := fun w h => show w ∈ k2_sels lw_privs ++ tables_1 from List.mem_append_right (k2_sels lw_privs) (show w ∈ tables_1 from List.mem_append_right _ (List.mem_append_right _ (List.mem_append_right _ (List.mem_append_right _ (List.mem_append_right _ (List.mem_append_right _ (List.mem_append_left _ h)))))))
theorem lw_m8 : ∀ w ∈ tables_1_8, w ∈ lw_tbl := fun w h => show w ∈ k2_sels lw_privs ++ tables_1 from List.mem_append_right (k2_sels lw_privs) (show w ∈ tables_1 from List.mem_append_right _ (List.mem_append_right _ (List.mem_append_right _ (List.mem_append_right _ (List.mem_append_right _ (List.mem_append_right _ (List.mem_append_right _ h)))))))
theorem qs0 : (Cond.selects "TourRooms" ⟨"TourRooms", "isPerson", "(I)Z"⟩ ⟨"TourRooms", "isPerson", "(I)Z"⟩) ∈ lw_all := lw_g (lw_at lw_ms 0 rfl) rfl
theorem qs1 : (Cond.selects "TourRooms" ⟨"TourRooms", "leaves", "(IZII)Z"⟩ ⟨"TourRooms", "leaves", "(IZII)Z"⟩) ∈ lw_all := lw_g (lw_at lw_ms 1 rfl) rfl
theorem qs2 : (Cond.selects "TourRooms" ⟨"TourRooms", "falls", "(IIZII)Z"⟩ ⟨"TourRooms", "falls", "(IIZII)Z"⟩) ∈ lw_all := lw_g (lw_at lw_ms 2 rfl) rfl
theorem qs3 : (Cond.selects "TourRooms" ⟨"TourRooms", "isOver", "(I)Z"⟩ ⟨"TourRooms", "isOver", "(I)Z"⟩) ∈ lw_all := lw_g (lw_at lw_ms 3 rfl) rfl
theorem qs4 : (Cond.selects "TourRooms" ⟨"TourRooms", "note", "(III)V"⟩ ⟨"TourRooms", "note", "(III)V"⟩) ∈ lw_all := lw_g (lw_at lw_ms 4 rfl) rfl
theorem qs5 : (Cond.selects "TourRooms" ⟨"TourRooms", "isTown", "(I)Z"⟩ ⟨"TourRooms", "isTown", "(I)Z"⟩) ∈ lw_all := lw_g (lw_at lw_ms 5 rfl) rfl
theorem qs6 : (Cond.selects "TourRooms" ⟨"TourRooms", "isRoom", "(II)Z"⟩ ⟨"TourRooms", "isRoom", "(II)Z"⟩) ∈ lw_all := lw_g (lw_at lw_ms 6 rfl) rfl
theorem qs7 : (Cond.selects "TourRooms" ⟨"TourRooms", "joins", "(LTourRooms$Room;II)Z"⟩ ⟨"TourRooms", "joins", "(LTourRooms$Room;II)Z"⟩) ∈ lw_all := lw_g (lw_at lw_ms 7 rfl) rfl
theorem qs8 : (Cond.selects "TourRooms" ⟨"TourRooms", "there", "(I)I"⟩ ⟨"TourRooms", "there", "(I)I"⟩) ∈ lw_all := lw_g (lw_at lw_ms 8 rfl) rfl
theorem qs9 : (Cond.selects "TourRooms" ⟨"TourRooms", "best", "(LTourRooms$Town;III)J"⟩ ⟨"TourRooms", "best", "(LTourRooms$Town;III)J"⟩) ∈ lw_all := lw_g (lw_at lw_ms 9 rfl) rfl
theorem qs10 : (Cond.selects "TourRooms" ⟨"TourRooms", "fits", "(LTourRooms$Room;I)Z"⟩ ⟨"TourRooms", "fits", "(LTourRooms$Room;I)Z"⟩) ∈ lw_all := lw_g (lw_at lw_ms 10 rfl) rfl
theorem qs11 : (Cond.selects "TourRooms" ⟨"TourRooms", "price", "(LTourRooms$Town;III)J"⟩ ⟨"TourRooms", "price", "(LTourRooms$Town;III)J"⟩) ∈ lw_all := lw_g (lw_at lw_ms 11 rfl) rfl
theorem qs12 : (Cond.selects "TourRooms" ⟨"TourRooms", "isBest", "(LTourRooms$Town;IIII)Z"⟩ ⟨"TourRooms", "isBest", "(LTourRooms$Town;IIII)Z"⟩) ∈ lw_all := lw_g (lw_at lw_ms 12 rfl) rfl
theorem qs13 : (Cond.selects "TourRooms" ⟨"TourRooms", "mostOf", "(LTourRooms$Town;II)J"⟩ ⟨"TourRooms", "mostOf", "(LTourRooms$Town;II)J"⟩) ∈ lw_all := lw_g (lw_at lw_ms 13 rfl) rfl
theorem qs14 : (Cond.selects "TourRooms" ⟨"TourRooms", "isRight", "(I)Z"⟩ ⟨"TourRooms", "isRight", "(I)Z"⟩) ∈ lw_all := lw_g (lw_at lw_ms 14 rfl) rfl
theorem qs15 : (Cond.selects "TourRooms$Reader" ⟨"TourRooms$Reader", "next", "()V"⟩ ⟨"TourRooms$Reader", "next", "()V"⟩) ∈ lw_all := lw_g (lw_at lw_ms 15 rfl) rfl
theorem qs16 : (Cond.selects "TourRooms$Reader" ⟨"TourRooms$Reader", "at", "(I)I"⟩ ⟨"TourRooms$Reader", "at", "(I)I"⟩) ∈ lw_all := lw_g (lw_at lw_ms 16 rfl) rfl
theorem qs17 : (Cond.selects "TourRooms$Reader" ⟨"TourRooms$Reader", "isLetter", "(I)Z"⟩ ⟨"TourRooms$Reader", "isLetter", "(I)Z"⟩) ∈ lw_all := lw_g (lw_at lw_ms 17 rfl) rfl
theorem qs18 : (Cond.selects "TourRooms$Reader" ⟨"TourRooms$Reader", "isDigit", "(I)Z"⟩ ⟨"TourRooms$Reader", "isDigit", "(I)Z"⟩) ∈ lw_all := lw_g (lw_at lw_ms 18 rfl) rfl
theorem qs19 : (Cond.selects "TourRooms$Reader" ⟨"TourRooms$Reader", "which", "(Ljava/lang/String;)I"⟩ ⟨"TourRooms$Reader", "which", "(Ljava/lang/String;)I"⟩) ∈ lw_all := lw_g (lw_at lw_ms 19 rfl) rfl
theorem qs20 : (Cond.selects "TourRooms$Reader" ⟨"TourRooms$Reader", "wrong", "(I)LTourRooms$Wrong;"⟩ ⟨"TourRooms$Reader", "wrong", "(I)LTourRooms$Wrong;"⟩) ∈ lw_all := lw_g (lw_at lw_ms 20 rfl) rfl
theorem qs21 : (Cond.selects "java/lang/Throwable" ⟨"java/lang/Throwable", "fillInStackTrace", "(I)Ljava/lang/Throwable;"⟩ ⟨"java/lang/Throwable", "fillInStackTrace", "(I)Ljava/lang/Throwable;"⟩) ∈ lw_all := lw_g (lw_at lw_ms 21 rfl) rfl
theorem qs22 : (Cond.selects "TourRooms$Reader" ⟨"TourRooms$Reader", "e", "()LTourRooms$Exp;"⟩ ⟨"TourRooms$Reader", "e", "()LTourRooms$Exp;"⟩) ∈ lw_all := lw_g (lw_at lw_ms 22 rfl) rfl
theorem qs23 : (Cond.selects "TourRooms$Reader" ⟨"TourRooms$Reader", "test", "()LTourRooms$Exp;"⟩ ⟨"TourRooms$Reader", "test", "()LTourRooms$Exp;"⟩) ∈ lw_all := lw_g (lw_at lw_ms 23 rfl) rfl
theorem qs24 : (Cond.selects "TourRooms$Reader" ⟨"TourRooms$Reader", "sum", "()LTourRooms$Exp;"⟩ ⟨"TourRooms$Reader", "sum", "()LTourRooms$Exp;"⟩) ∈ lw_all := lw_g (lw_at lw_ms 24 rfl) rfl
theorem qs25 : (Cond.selects "TourRooms$Reader" ⟨"TourRooms$Reader", "part", "()LTourRooms$Exp;"⟩ ⟨"TourRooms$Reader", "part", "()LTourRooms$Exp;"⟩) ∈ lw_all := lw_g (lw_at lw_ms 25 rfl) rfl
theorem qs26 : (Cond.selects "TourRooms$Reader" ⟨"TourRooms$Reader", "isSign", "(C)Z"⟩ ⟨"TourRooms$Reader", "isSign", "(C)Z"⟩) ∈ lw_all := lw_g (lw_at lw_ms 26 rfl) rfl
theorem qs27 : (Cond.selects "TourRooms$Reader" ⟨"TourRooms$Reader", "need", "(C)V"⟩ ⟨"TourRooms$Reader", "need", "(C)V"⟩) ∈ lw_all := lw_g (lw_at lw_ms 27 rfl) rfl
theorem qs28 : (Cond.selects "java/util/ArrayList" ⟨"java/util/ArrayList", "add", "(Ljava/lang/Object;[Ljava/lang/Object;I)V"⟩ ⟨"java/util/ArrayList", "add", "(Ljava/lang/Object;[Ljava/lang/Object;I)V"⟩) ∈ lw_all := lw_g (lw_at lw_ms 28 rfl) rfl
theorem qs29 : (Cond.selects "java/util/ArrayList" ⟨"java/util/ArrayList", "grow", "()[Ljava/lang/Object;"⟩ ⟨"java/util/ArrayList", "grow", "()[Ljava/lang/Object;"⟩) ∈ lw_all := lw_g (lw_at lw_ms 29 rfl) rfl
theorem qs30 : (Cond.selects "java/util/ArrayList" ⟨"java/util/ArrayList", "grow", "(I)[Ljava/lang/Object;"⟩ ⟨"java/util/ArrayList", "grow", "(I)[Ljava/lang/Object;"⟩) ∈ lw_all := lw_g (lw_at lw_ms 30 rfl) rfl
theorem qs31 : (Cond.selects "TourRooms" ⟨"TourRooms", "lays", "(I)LTourRooms$Town;"⟩ ⟨"TourRooms", "lays", "(I)LTourRooms$Town;"⟩) ∈ lw_all := lw_g (lw_at lw_ms 31 rfl) rfl
theorem qs32 : (Cond.selects "TourRooms" ⟨"TourRooms", "worthOf", "(LTourRooms$Town;I)I"⟩ ⟨"TourRooms", "worthOf", "(LTourRooms$Town;I)I"⟩) ∈ lw_all := lw_g (lw_at lw_ms 32 rfl) rfl
theorem qs33 : (Cond.selects "TourRooms" ⟨"TourRooms", "costs", "(III)I"⟩ ⟨"TourRooms", "costs", "(III)I"⟩) ∈ lw_all := lw_g (lw_at lw_ms 33 rfl) rfl
theorem qs34 : (Cond.selects "TourRooms" ⟨"TourRooms", "isLoss", "(IIIII)Z"⟩ ⟨"TourRooms", "isLoss", "(IIIII)Z"⟩) ∈ lw_all := lw_g (lw_at lw_ms 34 rfl) rfl
theorem qs35 : (Cond.selects "TourRooms" ⟨"TourRooms", "lossOf", "(LTourRooms$Town;IIIII)I"⟩ ⟨"TourRooms", "lossOf", "(LTourRooms$Town;IIIII)I"⟩) ∈ lw_all := lw_g (lw_at lw_ms 35 rfl) rfl
theorem qs36 : (Cond.selects "TourRooms" ⟨"TourRooms", "worstOf", "(IIIII)I"⟩ ⟨"TourRooms", "worstOf", "(IIIII)I"⟩) ∈ lw_all := lw_g (lw_at lw_ms 36 rfl) rfl
theorem qs37 : (Cond.selects "TourRooms" ⟨"TourRooms", "goes", "(IIIIII)V"⟩ ⟨"TourRooms", "goes", "(IIIIII)V"⟩) ∈ lw_all := lw_g (lw_at lw_ms 37 rfl) rfl
theorem qs38 : (Cond.selects "TourRooms" ⟨"TourRooms", "home", "(IIIIII)V"⟩ ⟨"TourRooms", "home", "(IIIIII)V"⟩) ∈ lw_all := lw_g (lw_at lw_ms 38 rfl) rfl
theorem qs39 : (Cond.selects "TourRooms" ⟨"TourRooms", "isBetter", "(III)Z"⟩ ⟨"TourRooms", "isBetter", "(III)Z"⟩) ∈ lw_all := lw_g (lw_at lw_ms 39 rfl) rfl
theorem qs40 : (Cond.selects "TourRooms" ⟨"TourRooms", "townOfNight", "(I)I"⟩ ⟨"TourRooms", "townOfNight", "(I)I"⟩) ∈ lw_all := lw_g (lw_at lw_ms 40 rfl) rfl
theorem qs41 : (Cond.selects "TourRooms" ⟨"TourRooms", "billOf", "(LTourRooms$Town;I)I"⟩ ⟨"TourRooms", "billOf", "(LTourRooms$Town;I)I"⟩) ∈ lw_all := lw_g (lw_at lw_ms 41 rfl) rfl
theorem qs42 : (Cond.selects "TourRoomsModel" ⟨"TourRoomsModel", "isPerson", "(I)Z"⟩ ⟨"TourRoomsModel", "isPerson", "(I)Z"⟩) ∈ lw_all := lw_g (lw_at lw_ms 42 rfl) rfl
theorem qs43 : (Cond.selects "TourRoomsModel" ⟨"TourRoomsModel", "leaves", "(III)Z"⟩ ⟨"TourRoomsModel", "leaves", "(III)Z"⟩) ∈ lw_all := lw_g (lw_at lw_ms 43 rfl) rfl
theorem qs44 : (Cond.selects "TourRoomsModel" ⟨"TourRoomsModel", "isOver", "(I)Z"⟩ ⟨"TourRoomsModel", "isOver", "(I)Z"⟩) ∈ lw_all := lw_g (lw_at lw_ms 44 rfl) rfl
theorem qs45 : (Cond.selects "TourRoomsModel" ⟨"TourRoomsModel", "notes", "(III)V"⟩ ⟨"TourRoomsModel", "notes", "(III)V"⟩) ∈ lw_all := lw_g (lw_at lw_ms 45 rfl) rfl
theorem qs46 : (Cond.selects "TourRoomsModel" ⟨"TourRoomsModel", "isOpen", "(I)Z"⟩ ⟨"TourRoomsModel", "isOpen", "(I)Z"⟩) ∈ lw_all := lw_g (lw_at lw_ms 46 rfl) rfl
theorem qs47 : (Cond.selects "TourRoomsModel" ⟨"TourRoomsModel", "isTown", "(I)Z"⟩ ⟨"TourRoomsModel", "isTown", "(I)Z"⟩) ∈ lw_all := lw_g (lw_at lw_ms 47 rfl) rfl
theorem qs48 : (Cond.selects "TourRoomsModel" ⟨"TourRoomsModel", "isThere", "(II)Z"⟩ ⟨"TourRoomsModel", "isThere", "(II)Z"⟩) ∈ lw_all := lw_g (lw_at lw_ms 48 rfl) rfl
theorem qs49 : (Cond.selects "TourRoomsModel" ⟨"TourRoomsModel", "isRoom", "(II)Z"⟩ ⟨"TourRoomsModel", "isRoom", "(II)Z"⟩) ∈ lw_all := lw_g (lw_at lw_ms 49 rfl) rfl
theorem qs50 : (Cond.selects "TourRoomsModel" ⟨"TourRoomsModel", "setIn", "(II)I"⟩ ⟨"TourRoomsModel", "setIn", "(II)I"⟩) ∈ lw_all := lw_g (lw_at lw_ms 50 rfl) rfl
theorem qs51 : (Cond.selects "TourRoomsModel" ⟨"TourRoomsModel", "mayShare", "(II)Z"⟩ ⟨"TourRoomsModel", "mayShare", "(II)Z"⟩) ∈ lw_all := lw_g (lw_at lw_ms 51 rfl) rfl
theorem qs52 : (Cond.selects "TourRoomsModel" ⟨"TourRoomsModel", "findSets", "(I)V"⟩ ⟨"TourRoomsModel", "findSets", "(I)V"⟩) ∈ lw_all := lw_g (lw_at lw_ms 52 rfl) rfl
theorem qs53 : (Cond.selects "TourRoomsModel" ⟨"TourRoomsModel", "there", "(I)I"⟩ ⟨"TourRoomsModel", "there", "(I)I"⟩) ∈ lw_all := lw_g (lw_at lw_ms 53 rfl) rfl
theorem qs54 : (Cond.selects "TourRoomsModel" ⟨"TourRoomsModel", "mayBe", "(III)Z"⟩ ⟨"TourRoomsModel", "mayBe", "(III)Z"⟩) ∈ lw_all := lw_g (lw_at lw_ms 54 rfl) rfl
theorem qs55 : (Cond.selects "TourRoomsModel" ⟨"TourRoomsModel", "weight", "(IIII)I"⟩ ⟨"TourRoomsModel", "weight", "(IIII)I"⟩) ∈ lw_all := lw_g (lw_at lw_ms 55 rfl) rfl
theorem qs56 : (Cond.selects "TourRoomsModel" ⟨"TourRoomsModel", "movedBy", "(III)I"⟩ ⟨"TourRoomsModel", "movedBy", "(III)I"⟩) ∈ lw_all := lw_g (lw_at lw_ms 56 rfl) rfl
theorem qs57 : (Cond.selects "TourRoomsModel" ⟨"TourRoomsModel", "takes", "(III)I"⟩ ⟨"TourRoomsModel", "takes", "(III)I"⟩) ∈ lw_all := lw_g (lw_at lw_ms 57 rfl) rfl
theorem qs58 : (Cond.selects "TourRoomsModel" ⟨"TourRoomsModel", "isLeast", "(IIIII)Z"⟩ ⟨"TourRoomsModel", "isLeast", "(IIIII)Z"⟩) ∈ lw_all := lw_g (lw_at lw_ms 58 rfl) rfl
theorem qs59 : (Cond.selects "TourRoomsModel" ⟨"TourRoomsModel", "goes", "(I)V"⟩ ⟨"TourRoomsModel", "goes", "(I)V"⟩) ∈ lw_all := lw_g (lw_at lw_ms 59 rfl) rfl
theorem qs60 : (Cond.selects "TourRoomsModel" ⟨"TourRoomsModel", "next", "()V"⟩ ⟨"TourRoomsModel", "next", "()V"⟩) ∈ lw_all := lw_g (lw_at lw_ms 60 rfl) rfl
theorem qs61 : (Cond.selects "TourRoomsModel" ⟨"TourRoomsModel", "isSmall", "()Z"⟩ ⟨"TourRoomsModel", "isSmall", "()Z"⟩) ∈ lw_all := lw_g (lw_at lw_ms 61 rfl) rfl
theorem qs62 : (Cond.selects "TourRoomsModel" ⟨"TourRoomsModel", "isDigit", "()Z"⟩ ⟨"TourRoomsModel", "isDigit", "()Z"⟩) ∈ lw_all := lw_g (lw_at lw_ms 62 rfl) rfl
theorem qs63 : (Cond.selects "TourRoomsModel" ⟨"TourRoomsModel", "kindHere", "()I"⟩ ⟨"TourRoomsModel", "kindHere", "()I"⟩) ∈ lw_all := lw_g (lw_at lw_ms 63 rfl) rfl
theorem qs64 : (Cond.selects "TourRoomsModel" ⟨"TourRoomsModel", "isWord", "(J)Z"⟩ ⟨"TourRoomsModel", "isWord", "(J)Z"⟩) ∈ lw_all := lw_g (lw_at lw_ms 64 rfl) rfl
theorem qs65 : (Cond.selects "TourRoomsModel" ⟨"TourRoomsModel", "wrong", "(I)V"⟩ ⟨"TourRoomsModel", "wrong", "(I)V"⟩) ∈ lw_all := lw_g (lw_at lw_ms 65 rfl) rfl
theorem qs66 : (Cond.selects "TourRoomsModel" ⟨"TourRoomsModel", "whole", "()I"⟩ ⟨"TourRoomsModel", "whole", "()I"⟩) ∈ lw_all := lw_g (lw_at lw_ms 66 rfl) rfl
theorem qs67 : (Cond.selects "TourRoomsModel" ⟨"TourRoomsModel", "test", "()I"⟩ ⟨"TourRoomsModel", "test", "()I"⟩) ∈ lw_all := lw_g (lw_at lw_ms 67 rfl) rfl
theorem qs68 : (Cond.selects "TourRoomsModel" ⟨"TourRoomsModel", "sum", "()I"⟩ ⟨"TourRoomsModel", "sum", "()I"⟩) ∈ lw_all := lw_g (lw_at lw_ms 68 rfl) rfl
theorem qs69 : (Cond.selects "TourRoomsModel" ⟨"TourRoomsModel", "part", "()I"⟩ ⟨"TourRoomsModel", "part", "()I"⟩) ∈ lw_all := lw_g (lw_at lw_ms 69 rfl) rfl
theorem qs70 : (Cond.selects "TourRoomsModel" ⟨"TourRoomsModel", "isSign", "(I)Z"⟩ ⟨"TourRoomsModel", "isSign", "(I)Z"⟩) ∈ lw_all := lw_g (lw_at lw_ms 70 rfl) rfl
theorem qs71 : (Cond.selects "TourRoomsModel" ⟨"TourRoomsModel", "now", "(II)I"⟩ ⟨"TourRoomsModel", "now", "(II)I"⟩) ∈ lw_all := lw_g (lw_at lw_ms 71 rfl) rfl
theorem qs72 : (Cond.selects "TourRoomsModel" ⟨"TourRoomsModel", "heldIn", "(I)I"⟩ ⟨"TourRoomsModel", "heldIn", "(I)I"⟩) ∈ lw_all := lw_g (lw_at lw_ms 72 rfl) rfl
theorem qs73 : (Cond.selects "TourRoomsModel" ⟨"TourRoomsModel", "usedIn", "(I)I"⟩ ⟨"TourRoomsModel", "usedIn", "(I)I"⟩) ∈ lw_all := lw_g (lw_at lw_ms 73 rfl) rfl
theorem qs74 : (Cond.selects "TourRoomsModel" ⟨"TourRoomsModel", "peopleIn", "(I)I"⟩ ⟨"TourRoomsModel", "peopleIn", "(I)I"⟩) ∈ lw_all := lw_g (lw_at lw_ms 74 rfl) rfl
theorem qs75 : (Cond.selects "TourRoomsModel" ⟨"TourRoomsModel", "told", "(II)I"⟩ ⟨"TourRoomsModel", "told", "(II)I"⟩) ∈ lw_all := lw_g (lw_at lw_ms 75 rfl) rfl
theorem qs76 : (Cond.selects "TourRoomsModel" ⟨"TourRoomsModel", "part", "(III)I"⟩ ⟨"TourRoomsModel", "part", "(III)I"⟩) ∈ lw_all := lw_g (lw_at lw_ms 76 rfl) rfl
theorem qs77 : (Cond.selects "TourRoomsModel" ⟨"TourRoomsModel", "isLoss", "(IIIII)Z"⟩ ⟨"TourRoomsModel", "isLoss", "(IIIII)Z"⟩) ∈ lw_all := lw_g (lw_at lw_ms 77 rfl) rfl
theorem qs78 : (Cond.selects "TourRoomsModel" ⟨"TourRoomsModel", "losses", "(IIIII)V"⟩ ⟨"TourRoomsModel", "losses", "(IIIII)V"⟩) ∈ lw_all := lw_g (lw_at lw_ms 78 rfl) rfl
theorem qs79 : (Cond.selects "TourRoomsModel" ⟨"TourRoomsModel", "goesOn", "(IIIIIII)V"⟩ ⟨"TourRoomsModel", "goesOn", "(IIIIIII)V"⟩) ∈ lw_all := lw_g (lw_at lw_ms 79 rfl) rfl
theorem qs80 : (Cond.selects "TourRoomsModel" ⟨"TourRoomsModel", "home", "(IIIIII)V"⟩ ⟨"TourRoomsModel", "home", "(IIIIII)V"⟩) ∈ lw_all := lw_g (lw_at lw_ms 80 rfl) rfl
theorem qs81 : (Cond.selects "TourRoomsModel" ⟨"TourRoomsModel", "townAt", "(I)I"⟩ ⟨"TourRoomsModel", "townAt", "(I)I"⟩) ∈ lw_all := lw_g (lw_at lw_ms 81 rfl) rfl
theorem qs82 : (Cond.selects "TourRoomsModel" ⟨"TourRoomsModel", "billOf", "(I)I"⟩ ⟨"TourRoomsModel", "billOf", "(I)I"⟩) ∈ lw_all := lw_g (lw_at lw_ms 82 rfl) rfl
theorem qs83 : (Cond.selects "TourRoomsModel" ⟨"TourRoomsModel", "owes", "(IIII)V"⟩ ⟨"TourRoomsModel", "owes", "(IIII)V"⟩) ∈ lw_all := lw_g (lw_at lw_ms 83 rfl) rfl
theorem qs84 : (Cond.selects "TourRoomsModel" ⟨"TourRoomsModel", "costOf", "(I)I"⟩ ⟨"TourRoomsModel", "costOf", "(I)I"⟩) ∈ lw_all := lw_g (lw_at lw_ms 84 rfl) rfl
