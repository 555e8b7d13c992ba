-- ===== PART A: goes FIRST, ahead of the names: the tables' words, and 'selects' of the private methods out of them =====
/-- a private method of a class that the tables say can be made, by its rows of tables_1 -/
def lw_okq (q : MethodName × Nat) : Prop := (q.1.cls ≠ "java/lang/invoke/MethodHandle" ∧ q.1.cls ≠ "java/lang/invoke/VarHandle") ∧ Cond.instantiable q.1.cls q.2 ∈ tables_1 ∧ Cond.privateMethod q.1 ∈ tables_1 ∧ Cond.instanceMethod q.1 ∈ tables_1
set_option maxRecDepth 100000
theorem lw_t1 {w : Cond} (h : w ∈ tables_1_1) : w ∈ tables_1 := List.mem_append_left _ h
theorem lw_t2 {w : Cond} (h : w ∈ tables_1_2) : w ∈ tables_1 := List.mem_append_right _ (List.mem_append_left _ h)
theorem lw_t3 {w : Cond} (h : w ∈ tables_1_3) : w ∈ tables_1 := List.mem_append_right _ (List.mem_append_right _ (List.mem_append_left _ h))
theorem lw_t4 {w : Cond} (h : w ∈ tables_1_4) : w ∈ tables_1 := List.mem_append_right _ (List.mem_append_right _ (List.mem_append_right _ (List.mem_append_left _ h)))
theorem lw_t5 {w : Cond} (h : w ∈ tables_1_5) : w ∈ tables_1 := List.mem_append_right _ (List.mem_append_right _ (List.mem_append_right _ (List.mem_append_right _ (List.mem_append_left _ h))))
theorem lw_t6 {w : Cond} (h : w ∈ tables_1_6) : w ∈ tables_1 := List.mem_append_right _ (List.mem_append_right _ (List.mem_append_right _ (List.mem_append_right _ (List.mem_append_right _ (List.mem_append_left _ h)))))
theorem lw_t7 {w : Cond} (h : w ∈ tables_1_7) : w ∈ tables_1 := List.mem_append_right _ (List.mem_append_right _ (List.mem_append_right _ (List.mem_append_right _ (List.mem_append_right _ (List.mem_append_right _ (List.mem_append_left _ h))))))
theorem lw_t8 {w : Cond} (h : w ∈ tables_1_8) : w ∈ tables_1 := List.mem_append_right _ (List.mem_append_right _ (List.mem_append_right _ (List.mem_append_right _ (List.mem_append_right _ (List.mem_append_right _ (List.mem_append_right _ h))))))
theorem lw_p0 : lw_okq (⟨"java/lang/Throwable", "fillInStackTrace", "(I)Ljava/lang/Throwable;"⟩, 6) := ⟨⟨by decide +kernel, by decide +kernel⟩, lw_t1 (List.mem_of_getElem? (i := 107) rfl), lw_t1 (List.mem_of_getElem? (i := 105) rfl), lw_t1 (List.mem_of_getElem? (i := 106) rfl)⟩
theorem lw_p1 : lw_okq (⟨"HeavyGifts", "lay", "(I)V"⟩, 19) := ⟨⟨by decide +kernel, by decide +kernel⟩, lw_t1 (List.mem_of_getElem? (i := 39) rfl), lw_t3 (List.mem_of_getElem? (i := 68) rfl), lw_t3 (List.mem_of_getElem? (i := 69) rfl)⟩
theorem lw_p2 : lw_okq (⟨"HeavyGifts", "trouble", "(IIII)I"⟩, 19) := ⟨⟨by decide +kernel, by decide +kernel⟩, lw_t1 (List.mem_of_getElem? (i := 39) rfl), lw_t3 (List.mem_of_getElem? (i := 80) rfl), lw_t3 (List.mem_of_getElem? (i := 81) rfl)⟩
theorem lw_p3 : lw_okq (⟨"HeavyGifts", "isPerson", "(I)Z"⟩, 19) := ⟨⟨by decide +kernel, by decide +kernel⟩, lw_t1 (List.mem_of_getElem? (i := 39) rfl), lw_t3 (List.mem_of_getElem? (i := 84) rfl), lw_t3 (List.mem_of_getElem? (i := 85) rfl)⟩
theorem lw_p4 : lw_okq (⟨"HeavyGifts", "does", "(IIII)V"⟩, 19) := ⟨⟨by decide +kernel, by decide +kernel⟩, lw_t1 (List.mem_of_getElem? (i := 39) rfl), lw_t3 (List.mem_of_getElem? (i := 105) rfl), lw_t3 (List.mem_of_getElem? (i := 106) rfl)⟩
theorem lw_p5 : lw_okq (⟨"java/util/ArrayList", "add", "(Ljava/lang/Object;[Ljava/lang/Object;I)V"⟩, 3) := ⟨⟨by decide +kernel, by decide +kernel⟩, lw_t1 (List.mem_of_getElem? (i := 53) rfl), lw_t3 (List.mem_of_getElem? (i := 157) rfl), lw_t3 (List.mem_of_getElem? (i := 158) rfl)⟩
theorem lw_p6 : lw_okq (⟨"java/util/ArrayList", "grow", "()[Ljava/lang/Object;"⟩, 3) := ⟨⟨by decide +kernel, by decide +kernel⟩, lw_t1 (List.mem_of_getElem? (i := 53) rfl), lw_t3 (List.mem_of_getElem? (i := 161) rfl), lw_t3 (List.mem_of_getElem? (i := 162) rfl)⟩
theorem lw_p7 : lw_okq (⟨"java/util/ArrayList", "grow", "(I)[Ljava/lang/Object;"⟩, 3) := ⟨⟨by decide +kernel, by decide +kernel⟩, lw_t1 (List.mem_of_getElem? (i := 53) rfl), lw_t3 (List.mem_of_getElem? (i := 165) rfl), lw_t3 (List.mem_of_getElem? (i := 166) rfl)⟩
theorem lw_p8 : lw_okq (⟨"HeavyGifts", "gives", "(LHeavyGifts$State;IIII)V"⟩, 19) := ⟨⟨by decide +kernel, by decide +kernel⟩, lw_t1 (List.mem_of_getElem? (i := 39) rfl), lw_t3 (List.mem_of_getElem? (i := 204) rfl), lw_t3 (List.mem_of_getElem? (i := 205) rfl)⟩
theorem lw_p9 : lw_okq (⟨"java/util/ArrayList", "fastRemove", "([Ljava/lang/Object;I)V"⟩, 3) := ⟨⟨by decide +kernel, by decide +kernel⟩, lw_t1 (List.mem_of_getElem? (i := 53) rfl), lw_t3 (List.mem_of_getElem? (i := 230) rfl), lw_t3 (List.mem_of_getElem? (i := 231) rfl)⟩
theorem lw_p10 : lw_okq (⟨"HeavyGifts", "chosen", "(LHeavyGifts$State;I)I"⟩, 19) := ⟨⟨by decide +kernel, by decide +kernel⟩, lw_t1 (List.mem_of_getElem? (i := 39) rfl), lw_t4 (List.mem_of_getElem? (i := 4) rfl), lw_t4 (List.mem_of_getElem? (i := 5) rfl)⟩
theorem lw_p11 : lw_okq (⟨"HeavyGifts", "sandFor", "(LHeavyGifts$State;III)I"⟩, 19) := ⟨⟨by decide +kernel, by decide +kernel⟩, lw_t1 (List.mem_of_getElem? (i := 39) rfl), lw_t4 (List.mem_of_getElem? (i := 48) rfl), lw_t4 (List.mem_of_getElem? (i := 49) rfl)⟩
theorem lw_p12 : lw_okq (⟨"HeavyGifts", "toWhom", "(LHeavyGifts$State;II)I"⟩, 19) := ⟨⟨by decide +kernel, by decide +kernel⟩, lw_t1 (List.mem_of_getElem? (i := 39) rfl), lw_t4 (List.mem_of_getElem? (i := 77) rfl), lw_t4 (List.mem_of_getElem? (i := 78) rfl)⟩
theorem lw_p13 : lw_okq (⟨"HeavyGifts", "mayChange", "(LHeavyGifts$State;)Z"⟩, 19) := ⟨⟨by decide +kernel, by decide +kernel⟩, lw_t1 (List.mem_of_getElem? (i := 39) rfl), lw_t4 (List.mem_of_getElem? (i := 96) rfl), lw_t4 (List.mem_of_getElem? (i := 97) rfl)⟩
theorem lw_p14 : lw_okq (⟨"HeavyGifts", "dries", "(LHeavyGifts$State;)V"⟩, 19) := ⟨⟨by decide +kernel, by decide +kernel⟩, lw_t1 (List.mem_of_getElem? (i := 39) rfl), lw_t4 (List.mem_of_getElem? (i := 100) rfl), lw_t4 (List.mem_of_getElem? (i := 101) rfl)⟩
theorem lw_p15 : lw_okq (⟨"HeavyGifts$Reader", "go", "()V"⟩, 8) := ⟨⟨by decide +kernel, by decide +kernel⟩, lw_t4 (List.mem_of_getElem? (i := 147) rfl), lw_t4 (List.mem_of_getElem? (i := 154) rfl), lw_t4 (List.mem_of_getElem? (i := 155) rfl)⟩
def lw_privs_1 : List (MethodName × Nat) := [(⟨"java/lang/Throwable", "fillInStackTrace", "(I)Ljava/lang/Throwable;"⟩, 6), (⟨"HeavyGifts", "lay", "(I)V"⟩, 19), (⟨"HeavyGifts", "trouble", "(IIII)I"⟩, 19), (⟨"HeavyGifts", "isPerson", "(I)Z"⟩, 19), (⟨"HeavyGifts", "does", "(IIII)V"⟩, 19), (⟨"java/util/ArrayList", "add", "(Ljava/lang/Object;[Ljava/lang/Object;I)V"⟩, 3), (⟨"java/util/ArrayList", "grow", "()[Ljava/lang/Object;"⟩, 3), (⟨"java/util/ArrayList", "grow", "(I)[Ljava/lang/Object;"⟩, 3), (⟨"HeavyGifts", "gives", "(LHeavyGifts$State;IIII)V"⟩, 19), (⟨"java/util/ArrayList", "fastRemove", "([Ljava/lang/Object;I)V"⟩, 3), (⟨"HeavyGifts", "chosen", "(LHeavyGifts$State;I)I"⟩, 19), (⟨"HeavyGifts", "sandFor", "(LHeavyGifts$State;III)I"⟩, 19), (⟨"HeavyGifts", "toWhom", "(LHeavyGifts$State;II)I"⟩, 19), (⟨"HeavyGifts", "mayChange", "(LHeavyGifts$State;)Z"⟩, 19), (⟨"HeavyGifts", "dries", "(LHeavyGifts$State;)V"⟩, 19), (⟨"HeavyGifts$Reader", "go", "()V"⟩, 8)]
theorem lw_r1 : ∀ q ∈ lw_privs_1, lw_okq q := List.forall_mem_cons.mpr ⟨lw_p0, List.forall_mem_cons.mpr ⟨lw_p1, List.forall_mem_cons.mpr ⟨lw_p2, List.forall_mem_cons.mpr ⟨lw_p3, List.forall_mem_cons.mpr ⟨lw_p4, List.forall_mem_cons.mpr ⟨lw_p5, List.forall_mem_cons.mpr ⟨lw_p6, List.forall_mem_cons.mpr ⟨lw_p7, List.forall_mem_cons.mpr ⟨lw_p8, List.forall_mem_cons.mpr ⟨lw_p9, List.forall_mem_cons.mpr ⟨lw_p10, List.forall_mem_cons.mpr ⟨lw_p11, List.forall_mem_cons.mpr ⟨lw_p12, List.forall_mem_cons.mpr ⟨lw_p13, List.forall_mem_cons.mpr ⟨lw_p14, List.forall_mem_cons.mpr ⟨lw_p15, fun _ h => absurd h List.not_mem_nil⟩⟩⟩⟩⟩⟩⟩⟩⟩⟩⟩⟩⟩⟩⟩⟩
theorem lw_p16 : lw_okq (⟨"HeavyGifts$Reader", "byteAt", "(I)I"⟩, 8) := ⟨⟨by decide +kernel, by decide +kernel⟩, lw_t4 (List.mem_of_getElem? (i := 147) rfl), lw_t4 (List.mem_of_getElem? (i := 158) rfl), lw_t4 (List.mem_of_getElem? (i := 159) rfl)⟩
theorem lw_p17 : lw_okq (⟨"HeavyGifts$Reader", "is", "(Ljava/lang/String;)Z"⟩, 8) := ⟨⟨by decide +kernel, by decide +kernel⟩, lw_t4 (List.mem_of_getElem? (i := 147) rfl), lw_t4 (List.mem_of_getElem? (i := 237) rfl), lw_t4 (List.mem_of_getElem? (i := 238) rfl)⟩
theorem lw_p18 : lw_okq (⟨"HeavyGifts$Reader", "check", "(ZI)V"⟩, 8) := ⟨⟨by decide +kernel, by decide +kernel⟩, lw_t4 (List.mem_of_getElem? (i := 147) rfl), lw_t5 (List.mem_of_getElem? (i := 10) rfl), lw_t5 (List.mem_of_getElem? (i := 11) rfl)⟩
theorem lw_p19 : lw_okq (⟨"HeavyGifts$Reader", "number", "(II)I"⟩, 8) := ⟨⟨by decide +kernel, by decide +kernel⟩, lw_t4 (List.mem_of_getElem? (i := 147) rfl), lw_t5 (List.mem_of_getElem? (i := 38) rfl), lw_t5 (List.mem_of_getElem? (i := 39) rfl)⟩
theorem lw_p20 : lw_okq (⟨"HeavyGifts$Reader", "giver", "()LHeavyGifts$Giver;"⟩, 8) := ⟨⟨by decide +kernel, by decide +kernel⟩, lw_t4 (List.mem_of_getElem? (i := 147) rfl), lw_t5 (List.mem_of_getElem? (i := 42) rfl), lw_t5 (List.mem_of_getElem? (i := 43) rfl)⟩
theorem lw_p21 : lw_okq (⟨"HeavyGifts$Reader", "thing", "(LHeavyGifts$Town;LHeavyGifts$State;)V"⟩, 8) := ⟨⟨by decide +kernel, by decide +kernel⟩, lw_t4 (List.mem_of_getElem? (i := 147) rfl), lw_t5 (List.mem_of_getElem? (i := 94) rfl), lw_t5 (List.mem_of_getElem? (i := 95) rfl)⟩
theorem lw_p22 : lw_okq (⟨"HeavyGifts$Reader", "person", "(LHeavyGifts$Town;I)I"⟩, 8) := ⟨⟨by decide +kernel, by decide +kernel⟩, lw_t4 (List.mem_of_getElem? (i := 147) rfl), lw_t5 (List.mem_of_getElem? (i := 98) rfl), lw_t5 (List.mem_of_getElem? (i := 99) rfl)⟩
theorem lw_p23 : lw_okq (⟨"HeavyGifts$Reader", "need", "(Ljava/lang/String;)V"⟩, 8) := ⟨⟨by decide +kernel, by decide +kernel⟩, lw_t4 (List.mem_of_getElem? (i := 147) rfl), lw_t5 (List.mem_of_getElem? (i := 109) rfl), lw_t5 (List.mem_of_getElem? (i := 110) rfl)⟩
theorem lw_p24 : lw_okq (⟨"HeavyGifts", "person", "(I)V"⟩, 19) := ⟨⟨by decide +kernel, by decide +kernel⟩, lw_t1 (List.mem_of_getElem? (i := 39) rfl), lw_t5 (List.mem_of_getElem? (i := 150) rfl), lw_t5 (List.mem_of_getElem? (i := 151) rfl)⟩
theorem lw_p25 : lw_okq (⟨"HeavyGifts", "answer", "(II)Z"⟩, 19) := ⟨⟨by decide +kernel, by decide +kernel⟩, lw_t1 (List.mem_of_getElem? (i := 39) rfl), lw_t5 (List.mem_of_getElem? (i := 220) rfl), lw_t5 (List.mem_of_getElem? (i := 221) rfl)⟩
theorem lw_p26 : lw_okq (⟨"HeavyGifts", "comes", "(LHeavyGifts$State;I)V"⟩, 19) := ⟨⟨by decide +kernel, by decide +kernel⟩, lw_t1 (List.mem_of_getElem? (i := 39) rfl), lw_t5 (List.mem_of_getElem? (i := 238) rfl), lw_t5 (List.mem_of_getElem? (i := 239) rfl)⟩
theorem lw_p27 : lw_okq (⟨"HeavyGifts", "seeks", "(LHeavyGifts$State;II)V"⟩, 19) := ⟨⟨by decide +kernel, by decide +kernel⟩, lw_t1 (List.mem_of_getElem? (i := 39) rfl), lw_t6 (List.mem_of_getElem? (i := 10) rfl), lw_t6 (List.mem_of_getElem? (i := 11) rfl)⟩
theorem lw_p28 : lw_okq (⟨"HeavyGifts", "goes", "(LHeavyGifts$State;IIII)V"⟩, 19) := ⟨⟨by decide +kernel, by decide +kernel⟩, lw_t1 (List.mem_of_getElem? (i := 39) rfl), lw_t6 (List.mem_of_getElem? (i := 14) rfl), lw_t6 (List.mem_of_getElem? (i := 15) rfl)⟩
theorem lw_p29 : lw_okq (⟨"HeavyGifts", "makes", "(LHeavyGifts$State;I)V"⟩, 19) := ⟨⟨by decide +kernel, by decide +kernel⟩, lw_t1 (List.mem_of_getElem? (i := 39) rfl), lw_t6 (List.mem_of_getElem? (i := 26) rfl), lw_t6 (List.mem_of_getElem? (i := 27) rfl)⟩
theorem lw_p30 : lw_okq (⟨"HeavyGifts", "shifts", "(I)V"⟩, 19) := ⟨⟨by decide +kernel, by decide +kernel⟩, lw_t1 (List.mem_of_getElem? (i := 39) rfl), lw_t6 (List.mem_of_getElem? (i := 30) rfl), lw_t6 (List.mem_of_getElem? (i := 31) rfl)⟩
theorem lw_p31 : lw_okq (⟨"HeavyGifts", "isMadeBetween", "(II)Z"⟩, 19) := ⟨⟨by decide +kernel, by decide +kernel⟩, lw_t1 (List.mem_of_getElem? (i := 39) rfl), lw_t6 (List.mem_of_getElem? (i := 34) rfl), lw_t6 (List.mem_of_getElem? (i := 35) rfl)⟩
def lw_privs_2 : List (MethodName × Nat) := [(⟨"HeavyGifts$Reader", "byteAt", "(I)I"⟩, 8), (⟨"HeavyGifts$Reader", "is", "(Ljava/lang/String;)Z"⟩, 8), (⟨"HeavyGifts$Reader", "check", "(ZI)V"⟩, 8), (⟨"HeavyGifts$Reader", "number", "(II)I"⟩, 8), (⟨"HeavyGifts$Reader", "giver", "()LHeavyGifts$Giver;"⟩, 8), (⟨"HeavyGifts$Reader", "thing", "(LHeavyGifts$Town;LHeavyGifts$State;)V"⟩, 8), (⟨"HeavyGifts$Reader", "person", "(LHeavyGifts$Town;I)I"⟩, 8), (⟨"HeavyGifts$Reader", "need", "(Ljava/lang/String;)V"⟩, 8), (⟨"HeavyGifts", "person", "(I)V"⟩, 19), (⟨"HeavyGifts", "answer", "(II)Z"⟩, 19), (⟨"HeavyGifts", "comes", "(LHeavyGifts$State;I)V"⟩, 19), (⟨"HeavyGifts", "seeks", "(LHeavyGifts$State;II)V"⟩, 19), (⟨"HeavyGifts", "goes", "(LHeavyGifts$State;IIII)V"⟩, 19), (⟨"HeavyGifts", "makes", "(LHeavyGifts$State;I)V"⟩, 19), (⟨"HeavyGifts", "shifts", "(I)V"⟩, 19), (⟨"HeavyGifts", "isMadeBetween", "(II)Z"⟩, 19)]
theorem lw_r2 : ∀ q ∈ lw_privs_2, lw_okq q := List.forall_mem_cons.mpr ⟨lw_p16, List.forall_mem_cons.mpr ⟨lw_p17, List.forall_mem_cons.mpr ⟨lw_p18, List.forall_mem_cons.mpr ⟨lw_p19, List.forall_mem_cons.mpr ⟨lw_p20, List.forall_mem_cons.mpr ⟨lw_p21, List.forall_mem_cons.mpr ⟨lw_p22, List.forall_mem_cons.mpr ⟨lw_p23, List.forall_mem_cons.mpr ⟨lw_p24, List.forall_mem_cons.mpr ⟨lw_p25, List.forall_mem_cons.mpr ⟨lw_p26, List.forall_mem_cons.mpr ⟨lw_p27, List.forall_mem_cons.mpr ⟨lw_p28, List.forall_mem_cons.mpr ⟨lw_p29, List.forall_mem_cons.mpr ⟨lw_p30, List.forall_mem_cons.mpr ⟨lw_p31, fun _ h => absurd h List.not_mem_nil⟩⟩⟩⟩⟩⟩⟩⟩⟩⟩⟩⟩⟩⟩⟩⟩
theorem lw_p32 : lw_okq (⟨"HeavyGifts", "isMade", "(I)Z"⟩, 19) := ⟨⟨by decide +kernel, by decide +kernel⟩, lw_t1 (List.mem_of_getElem? (i := 39) rfl), lw_t6 (List.mem_of_getElem? (i := 38) rfl), lw_t6 (List.mem_of_getElem? (i := 39) rfl)⟩
theorem lw_p33 : lw_okq (⟨"HeavyGiftsModel", "fail", "(I)I"⟩, 55) := ⟨⟨by decide +kernel, by decide +kernel⟩, lw_t6 (List.mem_of_getElem? (i := 78) rfl), lw_t7 (List.mem_of_getElem? (i := 33) rfl), lw_t7 (List.mem_of_getElem? (i := 34) rfl)⟩
theorem lw_p34 : lw_okq (⟨"HeavyGiftsModel", "stepOn", "()V"⟩, 55) := ⟨⟨by decide +kernel, by decide +kernel⟩, lw_t6 (List.mem_of_getElem? (i := 78) rfl), lw_t7 (List.mem_of_getElem? (i := 37) rfl), lw_t7 (List.mem_of_getElem? (i := 38) rfl)⟩
theorem lw_p35 : lw_okq (⟨"HeavyGiftsModel", "byteAt", "(I)I"⟩, 55) := ⟨⟨by decide +kernel, by decide +kernel⟩, lw_t6 (List.mem_of_getElem? (i := 78) rfl), lw_t7 (List.mem_of_getElem? (i := 41) rfl), lw_t7 (List.mem_of_getElem? (i := 42) rfl)⟩
theorem lw_p36 : lw_okq (⟨"HeavyGiftsModel", "readLine", "(I)I"⟩, 55) := ⟨⟨by decide +kernel, by decide +kernel⟩, lw_t6 (List.mem_of_getElem? (i := 78) rfl), lw_t7 (List.mem_of_getElem? (i := 53) rfl), lw_t7 (List.mem_of_getElem? (i := 54) rfl)⟩
theorem lw_p37 : lw_okq (⟨"HeavyGiftsModel", "is", "(Ljava/lang/String;)Z"⟩, 55) := ⟨⟨by decide +kernel, by decide +kernel⟩, lw_t6 (List.mem_of_getElem? (i := 78) rfl), lw_t7 (List.mem_of_getElem? (i := 58) rfl), lw_t7 (List.mem_of_getElem? (i := 59) rfl)⟩
theorem lw_p38 : lw_okq (⟨"HeavyGiftsModel", "wrong", "(I)V"⟩, 55) := ⟨⟨by decide +kernel, by decide +kernel⟩, lw_t6 (List.mem_of_getElem? (i := 78) rfl), lw_t7 (List.mem_of_getElem? (i := 79) rfl), lw_t7 (List.mem_of_getElem? (i := 80) rfl)⟩
theorem lw_p39 : lw_okq (⟨"HeavyGiftsModel", "readOne", "()V"⟩, 55) := ⟨⟨by decide +kernel, by decide +kernel⟩, lw_t6 (List.mem_of_getElem? (i := 78) rfl), lw_t7 (List.mem_of_getElem? (i := 84) rfl), lw_t7 (List.mem_of_getElem? (i := 85) rfl)⟩
theorem lw_p40 : lw_okq (⟨"HeavyGiftsModel", "passes", "(Ljava/lang/String;)Z"⟩, 55) := ⟨⟨by decide +kernel, by decide +kernel⟩, lw_t6 (List.mem_of_getElem? (i := 78) rfl), lw_t7 (List.mem_of_getElem? (i := 89) rfl), lw_t7 (List.mem_of_getElem? (i := 90) rfl)⟩
theorem lw_p41 : lw_okq (⟨"HeavyGiftsModel", "readNumber", "(II)I"⟩, 55) := ⟨⟨by decide +kernel, by decide +kernel⟩, lw_t6 (List.mem_of_getElem? (i := 78) rfl), lw_t7 (List.mem_of_getElem? (i := 93) rfl), lw_t7 (List.mem_of_getElem? (i := 94) rfl)⟩
theorem lw_p42 : lw_okq (⟨"HeavyGiftsModel", "readThing", "()V"⟩, 55) := ⟨⟨by decide +kernel, by decide +kernel⟩, lw_t6 (List.mem_of_getElem? (i := 78) rfl), lw_t7 (List.mem_of_getElem? (i := 98) rfl), lw_t7 (List.mem_of_getElem? (i := 99) rfl)⟩
theorem lw_p43 : lw_okq (⟨"HeavyGiftsModel", "readPerson", "()I"⟩, 55) := ⟨⟨by decide +kernel, by decide +kernel⟩, lw_t6 (List.mem_of_getElem? (i := 78) rfl), lw_t7 (List.mem_of_getElem? (i := 102) rfl), lw_t7 (List.mem_of_getElem? (i := 103) rfl)⟩
theorem lw_p44 : lw_okq (⟨"HeavyGiftsModel", "personNow", "()I"⟩, 55) := ⟨⟨by decide +kernel, by decide +kernel⟩, lw_t6 (List.mem_of_getElem? (i := 78) rfl), lw_t7 (List.mem_of_getElem? (i := 106) rfl), lw_t7 (List.mem_of_getElem? (i := 107) rfl)⟩
theorem lw_p45 : lw_okq (⟨"HeavyGiftsModel", "readOwes", "()V"⟩, 55) := ⟨⟨by decide +kernel, by decide +kernel⟩, lw_t6 (List.mem_of_getElem? (i := 78) rfl), lw_t7 (List.mem_of_getElem? (i := 112) rfl), lw_t7 (List.mem_of_getElem? (i := 113) rfl)⟩
theorem lw_p46 : lw_okq (⟨"HeavyGiftsModel", "readLaw", "()V"⟩, 55) := ⟨⟨by decide +kernel, by decide +kernel⟩, lw_t6 (List.mem_of_getElem? (i := 78) rfl), lw_t7 (List.mem_of_getElem? (i := 117) rfl), lw_t7 (List.mem_of_getElem? (i := 118) rfl)⟩
theorem lw_p47 : lw_okq (⟨"HeavyGiftsModel", "isPerson", "(I)Z"⟩, 55) := ⟨⟨by decide +kernel, by decide +kernel⟩, lw_t6 (List.mem_of_getElem? (i := 78) rfl), lw_t7 (List.mem_of_getElem? (i := 141) rfl), lw_t7 (List.mem_of_getElem? (i := 142) rfl)⟩
def lw_privs_3 : List (MethodName × Nat) := [(⟨"HeavyGifts", "isMade", "(I)Z"⟩, 19), (⟨"HeavyGiftsModel", "fail", "(I)I"⟩, 55), (⟨"HeavyGiftsModel", "stepOn", "()V"⟩, 55), (⟨"HeavyGiftsModel", "byteAt", "(I)I"⟩, 55), (⟨"HeavyGiftsModel", "readLine", "(I)I"⟩, 55), (⟨"HeavyGiftsModel", "is", "(Ljava/lang/String;)Z"⟩, 55), (⟨"HeavyGiftsModel", "wrong", "(I)V"⟩, 55), (⟨"HeavyGiftsModel", "readOne", "()V"⟩, 55), (⟨"HeavyGiftsModel", "passes", "(Ljava/lang/String;)Z"⟩, 55), (⟨"HeavyGiftsModel", "readNumber", "(II)I"⟩, 55), (⟨"HeavyGiftsModel", "readThing", "()V"⟩, 55), (⟨"HeavyGiftsModel", "readPerson", "()I"⟩, 55), (⟨"HeavyGiftsModel", "personNow", "()I"⟩, 55), (⟨"HeavyGiftsModel", "readOwes", "()V"⟩, 55), (⟨"HeavyGiftsModel", "readLaw", "()V"⟩, 55), (⟨"HeavyGiftsModel", "isPerson", "(I)Z"⟩, 55)]
theorem lw_r3 : ∀ q ∈ lw_privs_3, lw_okq q := List.forall_mem_cons.mpr ⟨lw_p32, List.forall_mem_cons.mpr ⟨lw_p33, List.forall_mem_cons.mpr ⟨lw_p34, List.forall_mem_cons.mpr ⟨lw_p35, List.forall_mem_cons.mpr ⟨lw_p36, List.forall_mem_cons.mpr ⟨lw_p37, List.forall_mem_cons.mpr ⟨lw_p38, List.forall_mem_cons.mpr ⟨lw_p39, List.forall_mem_cons.mpr ⟨lw_p40, List.forall_mem_cons.mpr ⟨lw_p41, List.forall_mem_cons.mpr ⟨lw_p42, List.forall_mem_cons.mpr ⟨lw_p43, List.forall_mem_cons.mpr ⟨lw_p44, List.forall_mem_cons.mpr ⟨lw_p45, List.forall_mem_cons.mpr ⟨lw_p46, List.forall_mem_cons.mpr ⟨lw_p47, fun _ h => absurd h List.not_mem_nil⟩⟩⟩⟩⟩⟩⟩⟩⟩⟩⟩⟩⟩⟩⟩⟩
theorem lw_p48 : lw_okq (⟨"HeavyGiftsModel", "hasOf", "([II)I"⟩, 55) := ⟨⟨by decide +kernel, by decide +kernel⟩, lw_t6 (List.mem_of_getElem? (i := 78) rfl), lw_t7 (List.mem_of_getElem? (i := 145) rfl), lw_t7 (List.mem_of_getElem? (i := 146) rfl)⟩
theorem lw_p49 : lw_okq (⟨"HeavyGiftsModel", "worthOf", "(I)I"⟩, 55) := ⟨⟨by decide +kernel, by decide +kernel⟩, lw_t6 (List.mem_of_getElem? (i := 78) rfl), lw_t7 (List.mem_of_getElem? (i := 149) rfl), lw_t7 (List.mem_of_getElem? (i := 150) rfl)⟩
theorem lw_p50 : lw_okq (⟨"HeavyGiftsModel", "weightOf", "(I)I"⟩, 55) := ⟨⟨by decide +kernel, by decide +kernel⟩, lw_t6 (List.mem_of_getElem? (i := 78) rfl), lw_t7 (List.mem_of_getElem? (i := 153) rfl), lw_t7 (List.mem_of_getElem? (i := 154) rfl)⟩
theorem lw_p51 : lw_okq (⟨"HeavyGiftsModel", "isThing", "(I)Z"⟩, 55) := ⟨⟨by decide +kernel, by decide +kernel⟩, lw_t6 (List.mem_of_getElem? (i := 78) rfl), lw_t7 (List.mem_of_getElem? (i := 161) rfl), lw_t7 (List.mem_of_getElem? (i := 162) rfl)⟩
theorem lw_p52 : lw_okq (⟨"HeavyGiftsModel", "troubleOf", "(IIII)I"⟩, 55) := ⟨⟨by decide +kernel, by decide +kernel⟩, lw_t6 (List.mem_of_getElem? (i := 78) rfl), lw_t7 (List.mem_of_getElem? (i := 169) rfl), lw_t7 (List.mem_of_getElem? (i := 170) rfl)⟩
theorem lw_p53 : lw_okq (⟨"HeavyGiftsModel", "lightest", "(I)I"⟩, 55) := ⟨⟨by decide +kernel, by decide +kernel⟩, lw_t6 (List.mem_of_getElem? (i := 78) rfl), lw_t7 (List.mem_of_getElem? (i := 173) rfl), lw_t7 (List.mem_of_getElem? (i := 174) rfl)⟩
theorem lw_p54 : lw_okq (⟨"HeavyGiftsModel", "makeNow", "(IIII)V"⟩, 55) := ⟨⟨by decide +kernel, by decide +kernel⟩, lw_t6 (List.mem_of_getElem? (i := 78) rfl), lw_t7 (List.mem_of_getElem? (i := 182) rfl), lw_t7 (List.mem_of_getElem? (i := 183) rfl)⟩
theorem lw_p55 : lw_okq (⟨"HeavyGiftsModel", "make", "([IIIII)I"⟩, 55) := ⟨⟨by decide +kernel, by decide +kernel⟩, lw_t6 (List.mem_of_getElem? (i := 78) rfl), lw_t7 (List.mem_of_getElem? (i := 186) rfl), lw_t7 (List.mem_of_getElem? (i := 187) rfl)⟩
theorem lw_p56 : lw_okq (⟨"HeavyGiftsModel", "fits", "([III)Z"⟩, 55) := ⟨⟨by decide +kernel, by decide +kernel⟩, lw_t6 (List.mem_of_getElem? (i := 78) rfl), lw_t7 (List.mem_of_getElem? (i := 202) rfl), lw_t7 (List.mem_of_getElem? (i := 203) rfl)⟩
theorem lw_p57 : lw_okq (⟨"HeavyGiftsModel", "sandFor", "([IIII)I"⟩, 55) := ⟨⟨by decide +kernel, by decide +kernel⟩, lw_t6 (List.mem_of_getElem? (i := 78) rfl), lw_t7 (List.mem_of_getElem? (i := 206) rfl), lw_t7 (List.mem_of_getElem? (i := 207) rfl)⟩
theorem lw_p58 : lw_okq (⟨"HeavyGiftsModel", "choiceOf", "([III)I"⟩, 55) := ⟨⟨by decide +kernel, by decide +kernel⟩, lw_t6 (List.mem_of_getElem? (i := 78) rfl), lw_t7 (List.mem_of_getElem? (i := 214) rfl), lw_t7 (List.mem_of_getElem? (i := 215) rfl)⟩
theorem lw_p59 : lw_okq (⟨"HeavyGiftsModel", "rankOf", "(II)I"⟩, 55) := ⟨⟨by decide +kernel, by decide +kernel⟩, lw_t6 (List.mem_of_getElem? (i := 78) rfl), lw_t7 (List.mem_of_getElem? (i := 218) rfl), lw_t7 (List.mem_of_getElem? (i := 219) rfl)⟩
theorem lw_p60 : lw_okq (⟨"HeavyGiftsModel", "whomOf", "([III)I"⟩, 55) := ⟨⟨by decide +kernel, by decide +kernel⟩, lw_t6 (List.mem_of_getElem? (i := 78) rfl), lw_t7 (List.mem_of_getElem? (i := 225) rfl), lw_t7 (List.mem_of_getElem? (i := 226) rfl)⟩
theorem lw_p61 : lw_okq (⟨"HeavyGiftsModel", "weekOn", "(II)V"⟩, 55) := ⟨⟨by decide +kernel, by decide +kernel⟩, lw_t6 (List.mem_of_getElem? (i := 78) rfl), lw_t7 (List.mem_of_getElem? (i := 238) rfl), lw_t7 (List.mem_of_getElem? (i := 239) rfl)⟩
theorem lw_p62 : lw_okq (⟨"HeavyGiftsModel", "answerOn", "(III)V"⟩, 55) := ⟨⟨by decide +kernel, by decide +kernel⟩, lw_t6 (List.mem_of_getElem? (i := 78) rfl), lw_t8 (List.mem_of_getElem? (i := 2) rfl), lw_t8 (List.mem_of_getElem? (i := 3) rfl)⟩
theorem lw_p63 : lw_okq (⟨"HeavyGiftsModel", "loadRow", "(I)V"⟩, 55) := ⟨⟨by decide +kernel, by decide +kernel⟩, lw_t6 (List.mem_of_getElem? (i := 78) rfl), lw_t8 (List.mem_of_getElem? (i := 6) rfl), lw_t8 (List.mem_of_getElem? (i := 7) rfl)⟩
def lw_privs_4 : List (MethodName × Nat) := [(⟨"HeavyGiftsModel", "hasOf", "([II)I"⟩, 55), (⟨"HeavyGiftsModel", "worthOf", "(I)I"⟩, 55), (⟨"HeavyGiftsModel", "weightOf", "(I)I"⟩, 55), (⟨"HeavyGiftsModel", "isThing", "(I)Z"⟩, 55), (⟨"HeavyGiftsModel", "troubleOf", "(IIII)I"⟩, 55), (⟨"HeavyGiftsModel", "lightest", "(I)I"⟩, 55), (⟨"HeavyGiftsModel", "makeNow", "(IIII)V"⟩, 55), (⟨"HeavyGiftsModel", "make", "([IIIII)I"⟩, 55), (⟨"HeavyGiftsModel", "fits", "([III)Z"⟩, 55), (⟨"HeavyGiftsModel", "sandFor", "([IIII)I"⟩, 55), (⟨"HeavyGiftsModel", "choiceOf", "([III)I"⟩, 55), (⟨"HeavyGiftsModel", "rankOf", "(II)I"⟩, 55), (⟨"HeavyGiftsModel", "whomOf", "([III)I"⟩, 55), (⟨"HeavyGiftsModel", "weekOn", "(II)V"⟩, 55), (⟨"HeavyGiftsModel", "answerOn", "(III)V"⟩, 55), (⟨"HeavyGiftsModel", "loadRow", "(I)V"⟩, 55)]
theorem lw_r4 : ∀ q ∈ lw_privs_4, lw_okq q := List.forall_mem_cons.mpr ⟨lw_p48, List.forall_mem_cons.mpr ⟨lw_p49, List.forall_mem_cons.mpr ⟨lw_p50, List.forall_mem_cons.mpr ⟨lw_p51, List.forall_mem_cons.mpr ⟨lw_p52, List.forall_mem_cons.mpr ⟨lw_p53, List.forall_mem_cons.mpr ⟨lw_p54, List.forall_mem_cons.mpr ⟨lw_p55, List.forall_mem_cons.mpr ⟨lw_p56, List.forall_mem_cons.mpr ⟨lw_p57, List.forall_mem_cons.mpr ⟨lw_p58, List.forall_mem_cons.mpr ⟨lw_p59, List.forall_mem_cons.mpr ⟨lw_p60, List.forall_mem_cons.mpr ⟨lw_p61, List.forall_mem_cons.mpr ⟨lw_p62, List.forall_mem_cons.mpr ⟨lw_p63, fun _ h => absurd h List.not_mem_nil⟩⟩⟩⟩⟩⟩⟩⟩⟩⟩⟩⟩⟩⟩⟩⟩
theorem lw_p64 : lw_okq (⟨"HeavyGiftsModel", "come", "([II)V"⟩, 55) := ⟨⟨by decide +kernel, by decide +kernel⟩, lw_t6 (List.mem_of_getElem? (i := 78) rfl), lw_t8 (List.mem_of_getElem? (i := 18) rfl), lw_t8 (List.mem_of_getElem? (i := 19) rfl)⟩
theorem lw_p65 : lw_okq (⟨"HeavyGiftsModel", "isState", "(I[I)Z"⟩, 55) := ⟨⟨by decide +kernel, by decide +kernel⟩, lw_t6 (List.mem_of_getElem? (i := 78) rfl), lw_t8 (List.mem_of_getElem? (i := 25) rfl), lw_t8 (List.mem_of_getElem? (i := 26) rfl)⟩
theorem lw_p66 : lw_okq (⟨"HeavyGiftsModel", "goOn", "(III)V"⟩, 55) := ⟨⟨by decide +kernel, by decide +kernel⟩, lw_t6 (List.mem_of_getElem? (i := 78) rfl), lw_t8 (List.mem_of_getElem? (i := 29) rfl), lw_t8 (List.mem_of_getElem? (i := 30) rfl)⟩
theorem lw_p67 : lw_okq (⟨"HeavyGiftsModel", "giveOn", "(IIII)V"⟩, 55) := ⟨⟨by decide +kernel, by decide +kernel⟩, lw_t6 (List.mem_of_getElem? (i := 78) rfl), lw_t8 (List.mem_of_getElem? (i := 33) rfl), lw_t8 (List.mem_of_getElem? (i := 34) rfl)⟩
theorem lw_p68 : lw_okq (⟨"HeavyGiftsModel", "anyFits", "(I)Z"⟩, 55) := ⟨⟨by decide +kernel, by decide +kernel⟩, lw_t6 (List.mem_of_getElem? (i := 78) rfl), lw_t8 (List.mem_of_getElem? (i := 41) rfl), lw_t8 (List.mem_of_getElem? (i := 42) rfl)⟩
theorem lw_p69 : lw_okq (⟨"HeavyGiftsModel", "fitsWith", "(III)Z"⟩, 55) := ⟨⟨by decide +kernel, by decide +kernel⟩, lw_t6 (List.mem_of_getElem? (i := 78) rfl), lw_t8 (List.mem_of_getElem? (i := 45) rfl), lw_t8 (List.mem_of_getElem? (i := 46) rfl)⟩
theorem lw_p70 : lw_okq (⟨"HeavyGiftsModel", "tellWeights", "(II)V"⟩, 55) := ⟨⟨by decide +kernel, by decide +kernel⟩, lw_t6 (List.mem_of_getElem? (i := 78) rfl), lw_t8 (List.mem_of_getElem? (i := 57) rfl), lw_t8 (List.mem_of_getElem? (i := 58) rfl)⟩
theorem lw_p71 : lw_okq (⟨"HeavyGiftsModel", "madeUpTo", "(I)I"⟩, 55) := ⟨⟨by decide +kernel, by decide +kernel⟩, lw_t6 (List.mem_of_getElem? (i := 78) rfl), lw_t8 (List.mem_of_getElem? (i := 61) rfl), lw_t8 (List.mem_of_getElem? (i := 62) rfl)⟩
theorem lw_p72 : lw_okq (⟨"HeavyGiftsModel", "dry", "()V"⟩, 55) := ⟨⟨by decide +kernel, by decide +kernel⟩, lw_t6 (List.mem_of_getElem? (i := 78) rfl), lw_t8 (List.mem_of_getElem? (i := 77) rfl), lw_t8 (List.mem_of_getElem? (i := 78) rfl)⟩
theorem lw_p73 : lw_okq (⟨"HeavyGiftsModel", "stillFrom", "()I"⟩, 55) := ⟨⟨by decide +kernel, by decide +kernel⟩, lw_t6 (List.mem_of_getElem? (i := 78) rfl), lw_t8 (List.mem_of_getElem? (i := 85) rfl), lw_t8 (List.mem_of_getElem? (i := 86) rfl)⟩
theorem lw_p74 : lw_okq (⟨"HeavyGiftsModel", "isStill", "([II)Z"⟩, 55) := ⟨⟨by decide +kernel, by decide +kernel⟩, lw_t6 (List.mem_of_getElem? (i := 78) rfl), lw_t8 (List.mem_of_getElem? (i := 89) rfl), lw_t8 (List.mem_of_getElem? (i := 90) rfl)⟩
def lw_privs_5 : List (MethodName × Nat) := [(⟨"HeavyGiftsModel", "come", "([II)V"⟩, 55), (⟨"HeavyGiftsModel", "isState", "(I[I)Z"⟩, 55), (⟨"HeavyGiftsModel", "goOn", "(III)V"⟩, 55), (⟨"HeavyGiftsModel", "giveOn", "(IIII)V"⟩, 55), (⟨"HeavyGiftsModel", "anyFits", "(I)Z"⟩, 55), (⟨"HeavyGiftsModel", "fitsWith", "(III)Z"⟩, 55), (⟨"HeavyGiftsModel", "tellWeights", "(II)V"⟩, 55), (⟨"HeavyGiftsModel", "madeUpTo", "(I)I"⟩, 55), (⟨"HeavyGiftsModel", "dry", "()V"⟩, 55), (⟨"HeavyGiftsModel", "stillFrom", "()I"⟩, 55), (⟨"HeavyGiftsModel", "isStill", "([II)Z"⟩, 55)]
theorem lw_r5 : ∀ q ∈ lw_privs_5, lw_okq q := List.forall_mem_cons.mpr ⟨lw_p64, List.forall_mem_cons.mpr ⟨lw_p65, List.forall_mem_cons.mpr ⟨lw_p66, List.forall_mem_cons.mpr ⟨lw_p67, List.forall_mem_cons.mpr ⟨lw_p68, List.forall_mem_cons.mpr ⟨lw_p69, List.forall_mem_cons.mpr ⟨lw_p70, List.forall_mem_cons.mpr ⟨lw_p71, List.forall_mem_cons.mpr ⟨lw_p72, List.forall_mem_cons.mpr ⟨lw_p73, List.forall_mem_cons.mpr ⟨lw_p74, fun _ h => absurd h List.not_mem_nil⟩⟩⟩⟩⟩⟩⟩⟩⟩⟩⟩
def lw_privs : List (MethodName × Nat) := lw_privs_1 ++ (lw_privs_2 ++ (lw_privs_3 ++ (lw_privs_4 ++ (lw_privs_5))))
def lw_tbl : List Cond := k2_sels lw_privs ++ tables_1
theorem lw_privs_ok : ∀ q ∈ lw_privs, lw_okq q := by
  show ∀ q ∈ lw_privs_1 ++ (lw_privs_2 ++ (lw_privs_3 ++ (lw_privs_4 ++ (lw_privs_5)))), lw_okq q
  exact List.forall_mem_append.mpr ⟨lw_r1, List.forall_mem_append.mpr ⟨lw_r2, List.forall_mem_append.mpr ⟨lw_r3, List.forall_mem_append.mpr ⟨lw_r4, lw_r5⟩⟩⟩⟩
-- ===== ONE list of words for every method: the tables' words that hold all through a run =====
def lw_all : List Cond := lw_tbl.filter goodWord
/-- a word of the tables by its place: claim/WORDS.tsv -/
theorem lw_w {w : Cond} (i : Nat) (h : lw_tbl[i]? = some w) (g : goodWord w = true) : w ∈ lw_all := List.mem_filter.mpr ⟨List.mem_of_getElem? h, g⟩
theorem lw_all_tbl {w : Cond} (h : w ∈ lw_all) : w ∈ lw_tbl := (List.mem_filter.mp h).1
theorem lw_self : GoodIn lw_all lw_all := fun w h => ⟨h, good_of_word (List.mem_filter.mp h).2⟩
/-- a class's field words, by their places -/
theorem lw_in (ws : List Cond) (ps : List Nat) (hp : ws = ps.filterMap (fun i => lw_tbl[i]?)) (hg : ws.all goodWord = true) : ∀ w ∈ ws, w ∈ lw_all := by
  intro w h
  have h1 := List.all_eq_true.mp hg w h
  rw [hp] at h
  obtain ⟨i, -, hi⟩ := List.mem_filterMap.mp h
  exact lw_w i hi h1
/-- the words of a contract for the method y with code b, L locals, answer r -/
abbrev ws_ (y : MethodName) (b : ByteArray) (L : Nat) (r : Option FieldType) : List Cond := Cond.code y b L r :: lw_all
theorem lw_meth {y : MethodName} {b : ByteArray} {L : Nat} {r : Option FieldType} (h : Cond.code y b L r ∈ lw_all) : GoodIn lw_all (ws_ y b L r) := by
  intro w hw
  rcases List.mem_cons.mp hw with e | e
  · rw [e]
    exact lw_self _ h
  · exact lw_self _ e
theorem lw_app {a c : List Cond} (ha : ∀ w ∈ a, w ∈ lw_all) (hc : GoodIn lw_all c) : GoodIn lw_all (a ++ c) := by
  intro w hw
  rcases List.mem_append.mp hw with e | e
  · exact lw_self w (ha w e)
  · exact hc w e
/-- what a call through an object asks: cwV n hts (lw_V ..) -/
theorem lw_V {own : String} {idx : Nat} {C : String} {y : MethodName} {b : ByteArray} {L : Nat} {r : Option FieldType} (h1 : Cond.methodLink own idx y ∈ lw_all) (h2 : Cond.instanceMethod y ∈ lw_all) (h3 : Cond.selects C y y ∈ lw_all) (h4 : Cond.initialized C ∈ lw_all) (h5 : Cond.code y b L r ∈ lw_all) : GoodIn lw_all (wsV own idx C y (ws_ y b L r)) := by
  refine lw_app ?_ (lw_meth h5)
  intro w hw
  simp only [List.mem_cons, List.not_mem_nil, or_false] at hw
  rcases hw with e | e | e | e
  · rw [e]; exact h1
  · rw [e]; exact h2
  · rw [e]; exact h3
  · rw [e]; exact h4
/-- what a static call asks: va_cwS n hts (lw_S ..) -/
theorem lw_S {own : String} {idx : Nat} {y : MethodName} {b : ByteArray} {L : Nat} {r : Option FieldType} (h1 : Cond.methodLink own idx y ∈ lw_all) (h2 : Cond.static y ∈ lw_all) (h3 : Cond.initialized y.cls ∈ lw_all) (h4 : Cond.code y b L r ∈ lw_all) : GoodIn lw_all (va_wsS own idx y (ws_ y b L r)) := by
  refine lw_app ?_ (lw_meth h4)
  intro w hw
  simp only [List.mem_cons, List.not_mem_nil, or_false] at hw
  rcases hw with e | e | e
  · rw [e]; exact h1
  · rw [e]; exact h2
  · rw [e]; exact h3
/-- the words of a contract for a method WITH HANDLERS (hh: its table) -/
abbrev wsW_ (y : MethodName) (b : ByteArray) (L : Nat) (r : Option FieldType) (hh : List (Nat × Nat × Nat × Nat)) : List Cond := Cond.codeWith y b L r hh :: lw_all
theorem lw_methW {y : MethodName} {b : ByteArray} {L : Nat} {r : Option FieldType} {hh : List (Nat × Nat × Nat × Nat)} (h : Cond.codeWith y b L r hh ∈ lw_all) : GoodIn lw_all (wsW_ y b L r hh) := by
  intro w hw
  rcases List.mem_cons.mp hw with e | e
  · rw [e]
    exact lw_self _ h
  · exact lw_self _ e
/-- any list of words by their places (lw_in), good -/
theorem lw_good {ws : List Cond} (h : ∀ w ∈ ws, w ∈ lw_all) : GoodIn lw_all ws := fun w hw => lw_self w (h w hw)
/-- what a call of a method with handlers asks: vx_cwVW n hts (lw_VW ..), vx_cwSW n hts (lw_SW ..) -/
theorem lw_VW {own : String} {idx : Nat} {C : String} {y : MethodName} {b : ByteArray} {L : Nat} {r : Option FieldType} {hh : List (Nat × Nat × Nat × Nat)} (h1 : Cond.methodLink own idx y ∈ lw_all) (h2 : Cond.instanceMethod y ∈ lw_all) (h3 : Cond.selects C y y ∈ lw_all) (h4 : Cond.initialized C ∈ lw_all) (h5 : Cond.codeWith y b L r hh ∈ lw_all) : GoodIn lw_all (wsV own idx C y (wsW_ y b L r hh)) := by
  refine lw_app ?_ (lw_methW h5)
  intro w hw
  simp only [List.mem_cons, List.not_mem_nil, or_false] at hw
  rcases hw with e | e | e | e
  · rw [e]; exact h1
  · rw [e]; exact h2
  · rw [e]; exact h3
  · rw [e]; exact h4
theorem lw_SW {own : String} {idx : Nat} {y : MethodName} {b : ByteArray} {L : Nat} {r : Option FieldType} {hh : List (Nat × Nat × Nat × Nat)} (h1 : Cond.methodLink own idx y ∈ lw_all) (h2 : Cond.static y ∈ lw_all) (h3 : Cond.initialized y.cls ∈ lw_all) (h4 : Cond.codeWith y b L r hh ∈ lw_all) : GoodIn lw_all (va_wsS own idx y (wsW_ y b L r hh)) := by
  refine lw_app ?_ (lw_methW h4)
  intro w hw
  simp only [List.mem_cons, List.not_mem_nil, or_false] at hw
  rcases hw with e | e | e
  · rw [e]; exact h1
  · rw [e]; exact h2
  · rw [e]; exact h3
/-- a word by its place in its run of the tables -/
theorem lw_at {r : List Cond} (hr : ∀ w ∈ r, w ∈ lw_tbl) {w : Cond} (i : Nat) (h : r[i]? = some w) : w ∈ lw_tbl := hr w (List.mem_of_getElem? h)
theorem lw_g {w : Cond} (h : w ∈ lw_tbl) (g : goodWord w = true) : w ∈ lw_all := List.mem_filter.mpr ⟨h, g⟩
theorem lw_ms : ∀ w ∈ k2_sels lw_privs, w ∈ lw_tbl := fun w h => show w ∈ k2_sels lw_privs ++ tables_1 from List.mem_append_left _ h
theorem lw_m1 : ∀ w ∈ tables_1_1, w ∈ lw_tbl := fun w h => show w ∈ k2_sels lw_privs ++ tables_1 from List.mem_append_right (k2_sels lw_privs) (show w ∈ tables_1 from List.mem_append_left _ h)
theorem lw_m2 : ∀ w ∈ tables_1_2, w ∈ lw_tbl := fun w h => show w ∈ k2_sels lw_privs ++ tables_1 from List.mem_append_right (k2_sels lw_privs) (show w ∈ tables_1 from List.mem_append_right _ (List.mem_append_left _ h))
theorem lw_m3 : ∀ w ∈ tables_1_3, w ∈ lw_tbl := fun w h => show w ∈ k2_sels lw_privs ++ tables_1 from List.mem_append_right (k2_sels lw_privs) (show w ∈ tables_1 from List.mem_append_right _ (List.mem_append_right _ (List.mem_append_left _ h)))
theorem lw_m4 : ∀ w ∈ tables_1_4, w ∈ lw_tbl := fun w h => show w ∈ k2_sels lw_privs ++ tables_1 from List.mem_append_right (k2_sels lw_privs) (show w ∈ tables_1 from List.mem_append_right _ (List.mem_append_right _ (List.mem_append_right _ (List.mem_append_left _ h))))
theorem lw_m5 : ∀ w ∈ tables_1_5, w ∈ lw_tbl := fun w h => show w ∈ k2_sels lw_privs ++ tables_1 from List.mem_append_right (k2_sels lw_privs) (show w ∈ tables_1 from List.mem_append_right _ (List.mem_append_right _ (List.mem_append_right _ (List.mem_append_right _ (List.mem_append_left _ h)))))
theorem lw_m6 : ∀ w ∈ tables_1_6, w ∈ lw_tbl := fun w h => show w ∈ k2_sels lw_privs ++ tables_1 from List.mem_append_right (k2_sels lw_privs) (show w ∈ tables_1 from List.mem_append_right _ (List.mem_append_right _ (List.mem_append_right _ (List.mem_append_right _ (List.mem_append_right _ (List.mem_append_left _ h))))))
theorem lw_m7 : ∀ w ∈ tables_1_7, w ∈ lw_tbl := fun w h => show w ∈ k2_sels lw_privs ++ tables_1 from List.mem_append_right (k2_sels lw_privs) (show w ∈ tables_1 from List.mem_append_right _ (List.mem_append_right _ (List.mem_append_right _ (List.mem_append_right _ (List.mem_append_right _ (List.mem_append_right _ (List.mem_append_left _ h)))))))
theorem lw_m8 : ∀ w ∈ tables_1_8, w ∈ lw_tbl := fun w h => show w ∈ k2_sels lw_privs ++ tables_1 from List.mem_append_right (k2_sels lw_privs) (show w ∈ tables_1 from List.mem_append_right _ (List.mem_append_right _ (List.mem_append_right _ (List.mem_append_right _ (List.mem_append_right _ (List.mem_append_right _ (List.mem_append_right _ h)))))))
theorem qs0 : (Cond.selects "java/lang/Throwable" ⟨"java/lang/Throwable", "fillInStackTrace", "(I)Ljava/lang/Throwable;"⟩ ⟨"java/lang/Throwable", "fillInStackTrace", "(I)Ljava/lang/Throwable;"⟩) ∈ lw_all := lw_g (lw_at lw_ms 0 rfl) rfl
theorem qs1 : (Cond.selects "HeavyGifts" ⟨"HeavyGifts", "lay", "(I)V"⟩ ⟨"HeavyGifts", "lay", "(I)V"⟩) ∈ lw_all := lw_g (lw_at lw_ms 1 rfl) rfl
theorem qs2 : (Cond.selects "HeavyGifts" ⟨"HeavyGifts", "trouble", "(IIII)I"⟩ ⟨"HeavyGifts", "trouble", "(IIII)I"⟩) ∈ lw_all := lw_g (lw_at lw_ms 2 rfl) rfl
theorem qs3 : (Cond.selects "HeavyGifts" ⟨"HeavyGifts", "isPerson", "(I)Z"⟩ ⟨"HeavyGifts", "isPerson", "(I)Z"⟩) ∈ lw_all := lw_g (lw_at lw_ms 3 rfl) rfl
theorem qs4 : (Cond.selects "HeavyGifts" ⟨"HeavyGifts", "does", "(IIII)V"⟩ ⟨"HeavyGifts", "does", "(IIII)V"⟩) ∈ lw_all := lw_g (lw_at lw_ms 4 rfl) rfl
theorem qs5 : (Cond.selects "java/util/ArrayList" ⟨"java/util/ArrayList", "add", "(Ljava/lang/Object;[Ljava/lang/Object;I)V"⟩ ⟨"java/util/ArrayList", "add", "(Ljava/lang/Object;[Ljava/lang/Object;I)V"⟩) ∈ lw_all := lw_g (lw_at lw_ms 5 rfl) rfl
theorem qs6 : (Cond.selects "java/util/ArrayList" ⟨"java/util/ArrayList", "grow", "()[Ljava/lang/Object;"⟩ ⟨"java/util/ArrayList", "grow", "()[Ljava/lang/Object;"⟩) ∈ lw_all := lw_g (lw_at lw_ms 6 rfl) rfl
theorem qs7 : (Cond.selects "java/util/ArrayList" ⟨"java/util/ArrayList", "grow", "(I)[Ljava/lang/Object;"⟩ ⟨"java/util/ArrayList", "grow", "(I)[Ljava/lang/Object;"⟩) ∈ lw_all := lw_g (lw_at lw_ms 7 rfl) rfl
theorem qs8 : (Cond.selects "HeavyGifts" ⟨"HeavyGifts", "gives", "(LHeavyGifts$State;IIII)V"⟩ ⟨"HeavyGifts", "gives", "(LHeavyGifts$State;IIII)V"⟩) ∈ lw_all := lw_g (lw_at lw_ms 8 rfl) rfl
theorem qs9 : (Cond.selects "java/util/ArrayList" ⟨"java/util/ArrayList", "fastRemove", "([Ljava/lang/Object;I)V"⟩ ⟨"java/util/ArrayList", "fastRemove", "([Ljava/lang/Object;I)V"⟩) ∈ lw_all := lw_g (lw_at lw_ms 9 rfl) rfl
theorem qs10 : (Cond.selects "HeavyGifts" ⟨"HeavyGifts", "chosen", "(LHeavyGifts$State;I)I"⟩ ⟨"HeavyGifts", "chosen", "(LHeavyGifts$State;I)I"⟩) ∈ lw_all := lw_g (lw_at lw_ms 10 rfl) rfl
theorem qs11 : (Cond.selects "HeavyGifts" ⟨"HeavyGifts", "sandFor", "(LHeavyGifts$State;III)I"⟩ ⟨"HeavyGifts", "sandFor", "(LHeavyGifts$State;III)I"⟩) ∈ lw_all := lw_g (lw_at lw_ms 11 rfl) rfl
theorem qs12 : (Cond.selects "HeavyGifts" ⟨"HeavyGifts", "toWhom", "(LHeavyGifts$State;II)I"⟩ ⟨"HeavyGifts", "toWhom", "(LHeavyGifts$State;II)I"⟩) ∈ lw_all := lw_g (lw_at lw_ms 12 rfl) rfl
theorem qs13 : (Cond.selects "HeavyGifts" ⟨"HeavyGifts", "mayChange", "(LHeavyGifts$State;)Z"⟩ ⟨"HeavyGifts", "mayChange", "(LHeavyGifts$State;)Z"⟩) ∈ lw_all := lw_g (lw_at lw_ms 13 rfl) rfl
theorem qs14 : (Cond.selects "HeavyGifts" ⟨"HeavyGifts", "dries", "(LHeavyGifts$State;)V"⟩ ⟨"HeavyGifts", "dries", "(LHeavyGifts$State;)V"⟩) ∈ lw_all := lw_g (lw_at lw_ms 14 rfl) rfl
theorem qs15 : (Cond.selects "HeavyGifts$Reader" ⟨"HeavyGifts$Reader", "go", "()V"⟩ ⟨"HeavyGifts$Reader", "go", "()V"⟩) ∈ lw_all := lw_g (lw_at lw_ms 15 rfl) rfl
theorem qs16 : (Cond.selects "HeavyGifts$Reader" ⟨"HeavyGifts$Reader", "byteAt", "(I)I"⟩ ⟨"HeavyGifts$Reader", "byteAt", "(I)I"⟩) ∈ lw_all := lw_g (lw_at lw_ms 16 rfl) rfl
theorem qs17 : (Cond.selects "HeavyGifts$Reader" ⟨"HeavyGifts$Reader", "is", "(Ljava/lang/String;)Z"⟩ ⟨"HeavyGifts$Reader", "is", "(Ljava/lang/String;)Z"⟩) ∈ lw_all := lw_g (lw_at lw_ms 17 rfl) rfl
theorem qs18 : (Cond.selects "HeavyGifts$Reader" ⟨"HeavyGifts$Reader", "check", "(ZI)V"⟩ ⟨"HeavyGifts$Reader", "check", "(ZI)V"⟩) ∈ lw_all := lw_g (lw_at lw_ms 18 rfl) rfl
theorem qs19 : (Cond.selects "HeavyGifts$Reader" ⟨"HeavyGifts$Reader", "number", "(II)I"⟩ ⟨"HeavyGifts$Reader", "number", "(II)I"⟩) ∈ lw_all := lw_g (lw_at lw_ms 19 rfl) rfl
theorem qs20 : (Cond.selects "HeavyGifts$Reader" ⟨"HeavyGifts$Reader", "giver", "()LHeavyGifts$Giver;"⟩ ⟨"HeavyGifts$Reader", "giver", "()LHeavyGifts$Giver;"⟩) ∈ lw_all := lw_g (lw_at lw_ms 20 rfl) rfl
theorem qs21 : (Cond.selects "HeavyGifts$Reader" ⟨"HeavyGifts$Reader", "thing", "(LHeavyGifts$Town;LHeavyGifts$State;)V"⟩ ⟨"HeavyGifts$Reader", "thing", "(LHeavyGifts$Town;LHeavyGifts$State;)V"⟩) ∈ lw_all := lw_g (lw_at lw_ms 21 rfl) rfl
theorem qs22 : (Cond.selects "HeavyGifts$Reader" ⟨"HeavyGifts$Reader", "person", "(LHeavyGifts$Town;I)I"⟩ ⟨"HeavyGifts$Reader", "person", "(LHeavyGifts$Town;I)I"⟩) ∈ lw_all := lw_g (lw_at lw_ms 22 rfl) rfl
theorem qs23 : (Cond.selects "HeavyGifts$Reader" ⟨"HeavyGifts$Reader", "need", "(Ljava/lang/String;)V"⟩ ⟨"HeavyGifts$Reader", "need", "(Ljava/lang/String;)V"⟩) ∈ lw_all := lw_g (lw_at lw_ms 23 rfl) rfl
theorem qs24 : (Cond.selects "HeavyGifts" ⟨"HeavyGifts", "person", "(I)V"⟩ ⟨"HeavyGifts", "person", "(I)V"⟩) ∈ lw_all := lw_g (lw_at lw_ms 24 rfl) rfl
theorem qs25 : (Cond.selects "HeavyGifts" ⟨"HeavyGifts", "answer", "(II)Z"⟩ ⟨"HeavyGifts", "answer", "(II)Z"⟩) ∈ lw_all := lw_g (lw_at lw_ms 25 rfl) rfl
theorem qs26 : (Cond.selects "HeavyGifts" ⟨"HeavyGifts", "comes", "(LHeavyGifts$State;I)V"⟩ ⟨"HeavyGifts", "comes", "(LHeavyGifts$State;I)V"⟩) ∈ lw_all := lw_g (lw_at lw_ms 26 rfl) rfl
theorem qs27 : (Cond.selects "HeavyGifts" ⟨"HeavyGifts", "seeks", "(LHeavyGifts$State;II)V"⟩ ⟨"HeavyGifts", "seeks", "(LHeavyGifts$State;II)V"⟩) ∈ lw_all := lw_g (lw_at lw_ms 27 rfl) rfl
theorem qs28 : (Cond.selects "HeavyGifts" ⟨"HeavyGifts", "goes", "(LHeavyGifts$State;IIII)V"⟩ ⟨"HeavyGifts", "goes", "(LHeavyGifts$State;IIII)V"⟩) ∈ lw_all := lw_g (lw_at lw_ms 28 rfl) rfl
theorem qs29 : (Cond.selects "HeavyGifts" ⟨"HeavyGifts", "makes", "(LHeavyGifts$State;I)V"⟩ ⟨"HeavyGifts", "makes", "(LHeavyGifts$State;I)V"⟩) ∈ lw_all := lw_g (lw_at lw_ms 29 rfl) rfl
theorem qs30 : (Cond.selects "HeavyGifts" ⟨"HeavyGifts", "shifts", "(I)V"⟩ ⟨"HeavyGifts", "shifts", "(I)V"⟩) ∈ lw_all := lw_g (lw_at lw_ms 30 rfl) rfl
theorem qs31 : (Cond.selects "HeavyGifts" ⟨"HeavyGifts", "isMadeBetween", "(II)Z"⟩ ⟨"HeavyGifts", "isMadeBetween", "(II)Z"⟩) ∈ lw_all := lw_g (lw_at lw_ms 31 rfl) rfl
theorem qs32 : (Cond.selects "HeavyGifts" ⟨"HeavyGifts", "isMade", "(I)Z"⟩ ⟨"HeavyGifts", "isMade", "(I)Z"⟩) ∈ lw_all := lw_g (lw_at lw_ms 32 rfl) rfl
theorem qs33 : (Cond.selects "HeavyGiftsModel" ⟨"HeavyGiftsModel", "fail", "(I)I"⟩ ⟨"HeavyGiftsModel", "fail", "(I)I"⟩) ∈ lw_all := lw_g (lw_at lw_ms 33 rfl) rfl
theorem qs34 : (Cond.selects "HeavyGiftsModel" ⟨"HeavyGiftsModel", "stepOn", "()V"⟩ ⟨"HeavyGiftsModel", "stepOn", "()V"⟩) ∈ lw_all := lw_g (lw_at lw_ms 34 rfl) rfl
theorem qs35 : (Cond.selects "HeavyGiftsModel" ⟨"HeavyGiftsModel", "byteAt", "(I)I"⟩ ⟨"HeavyGiftsModel", "byteAt", "(I)I"⟩) ∈ lw_all := lw_g (lw_at lw_ms 35 rfl) rfl
theorem qs36 : (Cond.selects "HeavyGiftsModel" ⟨"HeavyGiftsModel", "readLine", "(I)I"⟩ ⟨"HeavyGiftsModel", "readLine", "(I)I"⟩) ∈ lw_all := lw_g (lw_at lw_ms 36 rfl) rfl
theorem qs37 : (Cond.selects "HeavyGiftsModel" ⟨"HeavyGiftsModel", "is", "(Ljava/lang/String;)Z"⟩ ⟨"HeavyGiftsModel", "is", "(Ljava/lang/String;)Z"⟩) ∈ lw_all := lw_g (lw_at lw_ms 37 rfl) rfl
theorem qs38 : (Cond.selects "HeavyGiftsModel" ⟨"HeavyGiftsModel", "wrong", "(I)V"⟩ ⟨"HeavyGiftsModel", "wrong", "(I)V"⟩) ∈ lw_all := lw_g (lw_at lw_ms 38 rfl) rfl
theorem qs39 : (Cond.selects "HeavyGiftsModel" ⟨"HeavyGiftsModel", "readOne", "()V"⟩ ⟨"HeavyGiftsModel", "readOne", "()V"⟩) ∈ lw_all := lw_g (lw_at lw_ms 39 rfl) rfl
theorem qs40 : (Cond.selects "HeavyGiftsModel" ⟨"HeavyGiftsModel", "passes", "(Ljava/lang/String;)Z"⟩ ⟨"HeavyGiftsModel", "passes", "(Ljava/lang/String;)Z"⟩) ∈ lw_all := lw_g (lw_at lw_ms 40 rfl) rfl
theorem qs41 : (Cond.selects "HeavyGiftsModel" ⟨"HeavyGiftsModel", "readNumber", "(II)I"⟩ ⟨"HeavyGiftsModel", "readNumber", "(II)I"⟩) ∈ lw_all := lw_g (lw_at lw_ms 41 rfl) rfl
theorem qs42 : (Cond.selects "HeavyGiftsModel" ⟨"HeavyGiftsModel", "readThing", "()V"⟩ ⟨"HeavyGiftsModel", "readThing", "()V"⟩) ∈ lw_all := lw_g (lw_at lw_ms 42 rfl) rfl
theorem qs43 : (Cond.selects "HeavyGiftsModel" ⟨"HeavyGiftsModel", "readPerson", "()I"⟩ ⟨"HeavyGiftsModel", "readPerson", "()I"⟩) ∈ lw_all := lw_g (lw_at lw_ms 43 rfl) rfl
theorem qs44 : (Cond.selects "HeavyGiftsModel" ⟨"HeavyGiftsModel", "personNow", "()I"⟩ ⟨"HeavyGiftsModel", "personNow", "()I"⟩) ∈ lw_all := lw_g (lw_at lw_ms 44 rfl) rfl
theorem qs45 : (Cond.selects "HeavyGiftsModel" ⟨"HeavyGiftsModel", "readOwes", "()V"⟩ ⟨"HeavyGiftsModel", "readOwes", "()V"⟩) ∈ lw_all := lw_g (lw_at lw_ms 45 rfl) rfl
theorem qs46 : (Cond.selects "HeavyGiftsModel" ⟨"HeavyGiftsModel", "readLaw", "()V"⟩ ⟨"HeavyGiftsModel", "readLaw", "()V"⟩) ∈ lw_all := lw_g (lw_at lw_ms 46 rfl) rfl
theorem qs47 : (Cond.selects "HeavyGiftsModel" ⟨"HeavyGiftsModel", "isPerson", "(I)Z"⟩ ⟨"HeavyGiftsModel", "isPerson", "(I)Z"⟩) ∈ lw_all := lw_g (lw_at lw_ms 47 rfl) rfl
theorem qs48 : (Cond.selects "HeavyGiftsModel" ⟨"HeavyGiftsModel", "hasOf", "([II)I"⟩ ⟨"HeavyGiftsModel", "hasOf", "([II)I"⟩) ∈ lw_all := lw_g (lw_at lw_ms 48 rfl) rfl
theorem qs49 : (Cond.selects "HeavyGiftsModel" ⟨"HeavyGiftsModel", "worthOf", "(I)I"⟩ ⟨"HeavyGiftsModel", "worthOf", "(I)I"⟩) ∈ lw_all := lw_g (lw_at lw_ms 49 rfl) rfl
theorem qs50 : (Cond.selects "HeavyGiftsModel" ⟨"HeavyGiftsModel", "weightOf", "(I)I"⟩ ⟨"HeavyGiftsModel", "weightOf", "(I)I"⟩) ∈ lw_all := lw_g (lw_at lw_ms 50 rfl) rfl
theorem qs51 : (Cond.selects "HeavyGiftsModel" ⟨"HeavyGiftsModel", "isThing", "(I)Z"⟩ ⟨"HeavyGiftsModel", "isThing", "(I)Z"⟩) ∈ lw_all := lw_g (lw_at lw_ms 51 rfl) rfl
theorem qs52 : (Cond.selects "HeavyGiftsModel" ⟨"HeavyGiftsModel", "troubleOf", "(IIII)I"⟩ ⟨"HeavyGiftsModel", "troubleOf", "(IIII)I"⟩) ∈ lw_all := lw_g (lw_at lw_ms 52 rfl) rfl
theorem qs53 : (Cond.selects "HeavyGiftsModel" ⟨"HeavyGiftsModel", "lightest", "(I)I"⟩ ⟨"HeavyGiftsModel", "lightest", "(I)I"⟩) ∈ lw_all := lw_g (lw_at lw_ms 53 rfl) rfl
theorem qs54 : (Cond.selects "HeavyGiftsModel" ⟨"HeavyGiftsModel", "makeNow", "(IIII)V"⟩ ⟨"HeavyGiftsModel", "makeNow", "(IIII)V"⟩) ∈ lw_all := lw_g (lw_at lw_ms 54 rfl) rfl
theorem qs55 : (Cond.selects "HeavyGiftsModel" ⟨"HeavyGiftsModel", "make", "([IIIII)I"⟩ ⟨"HeavyGiftsModel", "make", "([IIIII)I"⟩) ∈ lw_all := lw_g (lw_at lw_ms 55 rfl) rfl
theorem qs56 : (Cond.selects "HeavyGiftsModel" ⟨"HeavyGiftsModel", "fits", "([III)Z"⟩ ⟨"HeavyGiftsModel", "fits", "([III)Z"⟩) ∈ lw_all := lw_g (lw_at lw_ms 56 rfl) rfl
theorem qs57 : (Cond.selects "HeavyGiftsModel" ⟨"HeavyGiftsModel", "sandFor", "([IIII)I"⟩ ⟨"HeavyGiftsModel", "sandFor", "([IIII)I"⟩) ∈ lw_all := lw_g (lw_at lw_ms 57 rfl) rfl
theorem qs58 : (Cond.selects "HeavyGiftsModel" ⟨"HeavyGiftsModel", "choiceOf", "([III)I"⟩ ⟨"HeavyGiftsModel", "choiceOf", "([III)I"⟩) ∈ lw_all := lw_g (lw_at lw_ms 58 rfl) rfl
theorem qs59 : (Cond.selects "HeavyGiftsModel" ⟨"HeavyGiftsModel", "rankOf", "(II)I"⟩ ⟨"HeavyGiftsModel", "rankOf", "(II)I"⟩) ∈ lw_all := lw_g (lw_at lw_ms 59 rfl) rfl
theorem qs60 : (Cond.selects "HeavyGiftsModel" ⟨"HeavyGiftsModel", "whomOf", "([III)I"⟩ ⟨"HeavyGiftsModel", "whomOf", "([III)I"⟩) ∈ lw_all := lw_g (lw_at lw_ms 60 rfl) rfl
theorem qs61 : (Cond.selects "HeavyGiftsModel" ⟨"HeavyGiftsModel", "weekOn", "(II)V"⟩ ⟨"HeavyGiftsModel", "weekOn", "(II)V"⟩) ∈ lw_all := lw_g (lw_at lw_ms 61 rfl) rfl
theorem qs62 : (Cond.selects "HeavyGiftsModel" ⟨"HeavyGiftsModel", "answerOn", "(III)V"⟩ ⟨"HeavyGiftsModel", "answerOn", "(III)V"⟩) ∈ lw_all := lw_g (lw_at lw_ms 62 rfl) rfl
theorem qs63 : (Cond.selects "HeavyGiftsModel" ⟨"HeavyGiftsModel", "loadRow", "(I)V"⟩ ⟨"HeavyGiftsModel", "loadRow", "(I)V"⟩) ∈ lw_all := lw_g (lw_at lw_ms 63 rfl) rfl
theorem qs64 : (Cond.selects "HeavyGiftsModel" ⟨"HeavyGiftsModel", "come", "([II)V"⟩ ⟨"HeavyGiftsModel", "come", "([II)V"⟩) ∈ lw_all := lw_g (lw_at lw_ms 64 rfl) rfl
theorem qs65 : (Cond.selects "HeavyGiftsModel" ⟨"HeavyGiftsModel", "isState", "(I[I)Z"⟩ ⟨"HeavyGiftsModel", "isState", "(I[I)Z"⟩) ∈ lw_all := lw_g (lw_at lw_ms 65 rfl) rfl
theorem qs66 : (Cond.selects "HeavyGiftsModel" ⟨"HeavyGiftsModel", "goOn", "(III)V"⟩ ⟨"HeavyGiftsModel", "goOn", "(III)V"⟩) ∈ lw_all := lw_g (lw_at lw_ms 66 rfl) rfl
theorem qs67 : (Cond.selects "HeavyGiftsModel" ⟨"HeavyGiftsModel", "giveOn", "(IIII)V"⟩ ⟨"HeavyGiftsModel", "giveOn", "(IIII)V"⟩) ∈ lw_all := lw_g (lw_at lw_ms 67 rfl) rfl
theorem qs68 : (Cond.selects "HeavyGiftsModel" ⟨"HeavyGiftsModel", "anyFits", "(I)Z"⟩ ⟨"HeavyGiftsModel", "anyFits", "(I)Z"⟩) ∈ lw_all := lw_g (lw_at lw_ms 68 rfl) rfl
theorem qs69 : (Cond.selects "HeavyGiftsModel" ⟨"HeavyGiftsModel", "fitsWith", "(III)Z"⟩ ⟨"HeavyGiftsModel", "fitsWith", "(III)Z"⟩) ∈ lw_all := lw_g (lw_at lw_ms 69 rfl) rfl
theorem qs70 : (Cond.selects "HeavyGiftsModel" ⟨"HeavyGiftsModel", "tellWeights", "(II)V"⟩ ⟨"HeavyGiftsModel", "tellWeights", "(II)V"⟩) ∈ lw_all := lw_g (lw_at lw_ms 70 rfl) rfl
theorem qs71 : (Cond.selects "HeavyGiftsModel" ⟨"HeavyGiftsModel", "madeUpTo", "(I)I"⟩ ⟨"HeavyGiftsModel", "madeUpTo", "(I)I"⟩) ∈ lw_all := lw_g (lw_at lw_ms 71 rfl) rfl
theorem qs72 : (Cond.selects "HeavyGiftsModel" ⟨"HeavyGiftsModel", "dry", "()V"⟩ ⟨"HeavyGiftsModel", "dry", "()V"⟩) ∈ lw_all := lw_g (lw_at lw_ms 72 rfl) rfl
theorem qs73 : (Cond.selects "HeavyGiftsModel" ⟨"HeavyGiftsModel", "stillFrom", "()I"⟩ ⟨"HeavyGiftsModel", "stillFrom", "()I"⟩) ∈ lw_all := lw_g (lw_at lw_ms 73 rfl) rfl
theorem qs74 : (Cond.selects "HeavyGiftsModel" ⟨"HeavyGiftsModel", "isStill", "([II)Z"⟩ ⟨"HeavyGiftsModel", "isStill", "([II)Z"⟩) ∈ lw_all := lw_g (lw_at lw_ms 74 rfl) rfl
