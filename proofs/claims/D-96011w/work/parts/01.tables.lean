-- ===== PART A: goes FIRST, ahead of the names: the tables' words, and 'selects' of the private methods out of them =====
/-- a private method of a class that the tables say can be made, by its rows of tables_1 -/
def lw_okq (q : MethodName × Nat) : Prop := (q.1.cls ≠ "java/lang/invoke/MethodHandle" ∧ q.1.cls ≠ "java/lang/invoke/VarHandle") ∧ Cond.instantiable q.1.cls q.2 ∈ tables_1 ∧ Cond.privateMethod q.1 ∈ tables_1 ∧ Cond.instanceMethod q.1 ∈ tables_1
set_option maxRecDepth 100000
theorem lw_t1 {w : Cond} (h : w ∈ tables_1_1) : w ∈ tables_1 := List.mem_append_left _ h
theorem lw_t2 {w : Cond} (h : w ∈ tables_1_2) : w ∈ tables_1 := List.mem_append_right _ (List.mem_append_left _ h)
theorem lw_t3 {w : Cond} (h : w ∈ tables_1_3) : w ∈ tables_1 := List.mem_append_right _ (List.mem_append_right _ (List.mem_append_left _ h))
theorem lw_t4 {w : Cond} (h : w ∈ tables_1_4) : w ∈ tables_1 := List.mem_append_right _ (List.mem_append_right _ (List.mem_append_right _ (List.mem_append_left _ h)))
theorem lw_t5 {w : Cond} (h : w ∈ tables_1_5) : w ∈ tables_1 := List.mem_append_right _ (List.mem_append_right _ (List.mem_append_right _ (List.mem_append_right _ (List.mem_append_left _ h))))
theorem lw_t6 {w : Cond} (h : w ∈ tables_1_6) : w ∈ tables_1 := List.mem_append_right _ (List.mem_append_right _ (List.mem_append_right _ (List.mem_append_right _ (List.mem_append_right _ (List.mem_append_left _ h)))))
theorem lw_t7 {w : Cond} (h : w ∈ tables_1_7) : w ∈ tables_1 := List.mem_append_right _ (List.mem_append_right _ (List.mem_append_right _ (List.mem_append_right _ (List.mem_append_right _ (List.mem_append_right _ (List.mem_append_left _ h))))))
theorem lw_t8 {w : Cond} (h : w ∈ tables_1_8) : w ∈ tables_1 := List.mem_append_right _ (List.mem_append_right _ (List.mem_append_right _ (List.mem_append_right _ (List.mem_append_right _ (List.mem_append_right _ (List.mem_append_right _ (List.mem_append_left _ h)))))))
theorem lw_t9 {w : Cond} (h : w ∈ tables_1_9) : w ∈ tables_1 := List.mem_append_right _ (List.mem_append_right _ (List.mem_append_right _ (List.mem_append_right _ (List.mem_append_right _ (List.mem_append_right _ (List.mem_append_right _ (List.mem_append_right _ h)))))))
theorem lw_p0 : lw_okq (⟨"java/lang/NullPointerException", "getExtendedNPEMessage", "()Ljava/lang/String;"⟩, 8) := ⟨⟨by decide +kernel, by decide +kernel⟩, lw_t1 (List.mem_of_getElem? (i := 211) rfl), lw_t1 (List.mem_of_getElem? (i := 209) rfl), lw_t1 (List.mem_of_getElem? (i := 210) rfl)⟩
theorem lw_p1 : lw_okq (⟨"java/lang/Throwable", "fillInStackTrace", "(I)Ljava/lang/Throwable;"⟩, 6) := ⟨⟨by decide +kernel, by decide +kernel⟩, lw_t1 (List.mem_of_getElem? (i := 223) rfl), lw_t1 (List.mem_of_getElem? (i := 221) rfl), lw_t1 (List.mem_of_getElem? (i := 222) rfl)⟩
theorem lw_p2 : lw_okq (⟨"EverybodyHasTheBook", "no", "(I)I"⟩, 7) := ⟨⟨by decide +kernel, by decide +kernel⟩, lw_t1 (List.mem_of_getElem? (i := 36) rfl), lw_t2 (List.mem_of_getElem? (i := 33) rfl), lw_t2 (List.mem_of_getElem? (i := 34) rfl)⟩
theorem lw_p3 : lw_okq (⟨"EverybodyHasTheBook", "rowIn", "(I)Ljava/lang/Object;"⟩, 7) := ⟨⟨by decide +kernel, by decide +kernel⟩, lw_t1 (List.mem_of_getElem? (i := 36) rfl), lw_t2 (List.mem_of_getElem? (i := 67) rfl), lw_t2 (List.mem_of_getElem? (i := 68) rfl)⟩
theorem lw_p4 : lw_okq (⟨"EverybodyHasTheBook", "isGoer", "(I)Z"⟩, 7) := ⟨⟨by decide +kernel, by decide +kernel⟩, lw_t1 (List.mem_of_getElem? (i := 36) rfl), lw_t2 (List.mem_of_getElem? (i := 171) rfl), lw_t2 (List.mem_of_getElem? (i := 172) rfl)⟩
theorem lw_p5 : lw_okq (⟨"EverybodyHasTheBook", "first", "(LEverybodyHasTheBook$Goer;)I"⟩, 7) := ⟨⟨by decide +kernel, by decide +kernel⟩, lw_t1 (List.mem_of_getElem? (i := 36) rfl), lw_t2 (List.mem_of_getElem? (i := 194) rfl), lw_t2 (List.mem_of_getElem? (i := 195) rfl)⟩
theorem lw_p6 : lw_okq (⟨"EverybodyHasTheBook", "allInns", "()I"⟩, 7) := ⟨⟨by decide +kernel, by decide +kernel⟩, lw_t1 (List.mem_of_getElem? (i := 36) rfl), lw_t2 (List.mem_of_getElem? (i := 198) rfl), lw_t2 (List.mem_of_getElem? (i := 199) rfl)⟩
theorem lw_p7 : lw_okq (⟨"EverybodyHasTheBook$Reader", "next", "()V"⟩, 7) := ⟨⟨by decide +kernel, by decide +kernel⟩, lw_t3 (List.mem_of_getElem? (i := 171) rfl), lw_t3 (List.mem_of_getElem? (i := 215) rfl), lw_t3 (List.mem_of_getElem? (i := 216) rfl)⟩
theorem lw_p8 : lw_okq (⟨"EverybodyHasTheBook$Reader", "isIn", "(II)Z"⟩, 7) := ⟨⟨by decide +kernel, by decide +kernel⟩, lw_t3 (List.mem_of_getElem? (i := 171) rfl), lw_t3 (List.mem_of_getElem? (i := 219) rfl), lw_t3 (List.mem_of_getElem? (i := 220) rfl)⟩
theorem lw_p9 : lw_okq (⟨"EverybodyHasTheBook$Reader", "item", "()V"⟩, 7) := ⟨⟨by decide +kernel, by decide +kernel⟩, lw_t3 (List.mem_of_getElem? (i := 171) rfl), lw_t4 (List.mem_of_getElem? (i := 170) rfl), lw_t4 (List.mem_of_getElem? (i := 171) rfl)⟩
theorem lw_p10 : lw_okq (⟨"EverybodyHasTheBook$Reader", "wrong", "()LEverybodyHasTheBook$Fault;"⟩, 7) := ⟨⟨by decide +kernel, by decide +kernel⟩, lw_t3 (List.mem_of_getElem? (i := 171) rfl), lw_t4 (List.mem_of_getElem? (i := 174) rfl), lw_t4 (List.mem_of_getElem? (i := 175) rfl)⟩
theorem lw_p11 : lw_okq (⟨"EverybodyHasTheBook$Reader", "inn", "()V"⟩, 7) := ⟨⟨by decide +kernel, by decide +kernel⟩, lw_t3 (List.mem_of_getElem? (i := 171) rfl), lw_t5 (List.mem_of_getElem? (i := 23) rfl), lw_t5 (List.mem_of_getElem? (i := 24) rfl)⟩
theorem lw_p12 : lw_okq (⟨"EverybodyHasTheBook$Reader", "room", "(II)V"⟩, 7) := ⟨⟨by decide +kernel, by decide +kernel⟩, lw_t3 (List.mem_of_getElem? (i := 171) rfl), lw_t5 (List.mem_of_getElem? (i := 27) rfl), lw_t5 (List.mem_of_getElem? (i := 28) rfl)⟩
theorem lw_p13 : lw_okq (⟨"EverybodyHasTheBook$Reader", "number", "(II)I"⟩, 7) := ⟨⟨by decide +kernel, by decide +kernel⟩, lw_t3 (List.mem_of_getElem? (i := 171) rfl), lw_t5 (List.mem_of_getElem? (i := 31) rfl), lw_t5 (List.mem_of_getElem? (i := 32) rfl)⟩
theorem lw_p14 : lw_okq (⟨"EverybodyHasTheBook$Reader", "takes", "(Ljava/lang/String;)Z"⟩, 7) := ⟨⟨by decide +kernel, by decide +kernel⟩, lw_t3 (List.mem_of_getElem? (i := 171) rfl), lw_t5 (List.mem_of_getElem? (i := 37) rfl), lw_t5 (List.mem_of_getElem? (i := 38) rfl)⟩
theorem lw_p15 : lw_okq (⟨"EverybodyHasTheBook$Reader", "goer", "()V"⟩, 7) := ⟨⟨by decide +kernel, by decide +kernel⟩, lw_t3 (List.mem_of_getElem? (i := 171) rfl), lw_t5 (List.mem_of_getElem? (i := 41) rfl), lw_t5 (List.mem_of_getElem? (i := 42) rfl)⟩
def lw_privs_1 : List (MethodName × Nat) := [(⟨"java/lang/NullPointerException", "getExtendedNPEMessage", "()Ljava/lang/String;"⟩, 8), (⟨"java/lang/Throwable", "fillInStackTrace", "(I)Ljava/lang/Throwable;"⟩, 6), (⟨"EverybodyHasTheBook", "no", "(I)I"⟩, 7), (⟨"EverybodyHasTheBook", "rowIn", "(I)Ljava/lang/Object;"⟩, 7), (⟨"EverybodyHasTheBook", "isGoer", "(I)Z"⟩, 7), (⟨"EverybodyHasTheBook", "first", "(LEverybodyHasTheBook$Goer;)I"⟩, 7), (⟨"EverybodyHasTheBook", "allInns", "()I"⟩, 7), (⟨"EverybodyHasTheBook$Reader", "next", "()V"⟩, 7), (⟨"EverybodyHasTheBook$Reader", "isIn", "(II)Z"⟩, 7), (⟨"EverybodyHasTheBook$Reader", "item", "()V"⟩, 7), (⟨"EverybodyHasTheBook$Reader", "wrong", "()LEverybodyHasTheBook$Fault;"⟩, 7), (⟨"EverybodyHasTheBook$Reader", "inn", "()V"⟩, 7), (⟨"EverybodyHasTheBook$Reader", "room", "(II)V"⟩, 7), (⟨"EverybodyHasTheBook$Reader", "number", "(II)I"⟩, 7), (⟨"EverybodyHasTheBook$Reader", "takes", "(Ljava/lang/String;)Z"⟩, 7), (⟨"EverybodyHasTheBook$Reader", "goer", "()V"⟩, 7)]
theorem lw_r1 : ∀ q ∈ lw_privs_1, lw_okq q := List.forall_mem_cons.mpr ⟨lw_p0, List.forall_mem_cons.mpr ⟨lw_p1, List.forall_mem_cons.mpr ⟨lw_p2, List.forall_mem_cons.mpr ⟨lw_p3, List.forall_mem_cons.mpr ⟨lw_p4, List.forall_mem_cons.mpr ⟨lw_p5, List.forall_mem_cons.mpr ⟨lw_p6, List.forall_mem_cons.mpr ⟨lw_p7, List.forall_mem_cons.mpr ⟨lw_p8, List.forall_mem_cons.mpr ⟨lw_p9, List.forall_mem_cons.mpr ⟨lw_p10, List.forall_mem_cons.mpr ⟨lw_p11, List.forall_mem_cons.mpr ⟨lw_p12, List.forall_mem_cons.mpr ⟨lw_p13, List.forall_mem_cons.mpr ⟨lw_p14, List.forall_mem_cons.mpr ⟨lw_p15, fun _ h => absurd h List.not_mem_nil⟩⟩⟩⟩⟩⟩⟩⟩⟩⟩⟩⟩⟩⟩⟩⟩
theorem lw_p16 : lw_okq (⟨"EverybodyHasTheBook$Reader", "letter", "()V"⟩, 7) := ⟨⟨by decide +kernel, by decide +kernel⟩, lw_t3 (List.mem_of_getElem? (i := 171) rfl), lw_t5 (List.mem_of_getElem? (i := 47) rfl), lw_t5 (List.mem_of_getElem? (i := 48) rfl)⟩
theorem lw_p17 : lw_okq (⟨"EverybodyHasTheBook$Reader", "write", "()V"⟩, 7) := ⟨⟨by decide +kernel, by decide +kernel⟩, lw_t3 (List.mem_of_getElem? (i := 171) rfl), lw_t5 (List.mem_of_getElem? (i := 53) rfl), lw_t5 (List.mem_of_getElem? (i := 54) rfl)⟩
theorem lw_p18 : lw_okq (⟨"EverybodyHasTheBook", "noLow", "(I)I"⟩, 7) := ⟨⟨by decide +kernel, by decide +kernel⟩, lw_t1 (List.mem_of_getElem? (i := 36) rfl), lw_t5 (List.mem_of_getElem? (i := 92) rfl), lw_t5 (List.mem_of_getElem? (i := 93) rfl)⟩
theorem lw_p19 : lw_okq (⟨"EverybodyHasTheBook$Valley", "empties", "()V"⟩, 17) := ⟨⟨by decide +kernel, by decide +kernel⟩, lw_t1 (List.mem_of_getElem? (i := 44) rfl), lw_t5 (List.mem_of_getElem? (i := 105) rfl), lw_t5 (List.mem_of_getElem? (i := 106) rfl)⟩
theorem lw_p20 : lw_okq (⟨"EverybodyHasTheBook$Valley", "comes", "(II)V"⟩, 17) := ⟨⟨by decide +kernel, by decide +kernel⟩, lw_t1 (List.mem_of_getElem? (i := 44) rfl), lw_t5 (List.mem_of_getElem? (i := 124) rfl), lw_t5 (List.mem_of_getElem? (i := 125) rfl)⟩
theorem lw_p21 : lw_okq (⟨"EverybodyHasTheBook$Valley", "open", "()I"⟩, 17) := ⟨⟨by decide +kernel, by decide +kernel⟩, lw_t1 (List.mem_of_getElem? (i := 44) rfl), lw_t5 (List.mem_of_getElem? (i := 128) rfl), lw_t5 (List.mem_of_getElem? (i := 129) rfl)⟩
theorem lw_p22 : lw_okq (⟨"EverybodyHasTheBook", "tried", "()LEverybodyHasTheBook$Valley;"⟩, 7) := ⟨⟨by decide +kernel, by decide +kernel⟩, lw_t1 (List.mem_of_getElem? (i := 36) rfl), lw_t5 (List.mem_of_getElem? (i := 189) rfl), lw_t5 (List.mem_of_getElem? (i := 190) rfl)⟩
theorem lw_p23 : lw_okq (⟨"EverybodyHasTheBook", "isWanted", "(LEverybodyHasTheBook$Valley;I)Z"⟩, 7) := ⟨⟨by decide +kernel, by decide +kernel⟩, lw_t1 (List.mem_of_getElem? (i := 36) rfl), lw_t5 (List.mem_of_getElem? (i := 202) rfl), lw_t5 (List.mem_of_getElem? (i := 203) rfl)⟩
theorem lw_p24 : lw_okq (⟨"EverybodyHasTheBook", "wrongIn", "(Ljava/lang/Object;)I"⟩, 7) := ⟨⟨by decide +kernel, by decide +kernel⟩, lw_t1 (List.mem_of_getElem? (i := 36) rfl), lw_t5 (List.mem_of_getElem? (i := 229) rfl), lw_t5 (List.mem_of_getElem? (i := 230) rfl)⟩
theorem lw_p25 : lw_okq (⟨"EverybodyHasTheBook$Valley", "ages", "(I)V"⟩, 17) := ⟨⟨by decide +kernel, by decide +kernel⟩, lw_t1 (List.mem_of_getElem? (i := 44) rfl), lw_t6 (List.mem_of_getElem? (i := 10) rfl), lw_t6 (List.mem_of_getElem? (i := 11) rfl)⟩
theorem lw_p26 : lw_okq (⟨"EverybodyHasTheBook", "writtenBy", "(II)I"⟩, 7) := ⟨⟨by decide +kernel, by decide +kernel⟩, lw_t1 (List.mem_of_getElem? (i := 36) rfl), lw_t6 (List.mem_of_getElem? (i := 28) rfl), lw_t6 (List.mem_of_getElem? (i := 29) rfl)⟩
theorem lw_p27 : lw_okq (⟨"EverybodyHasTheBook", "bookOf", "(II)I"⟩, 7) := ⟨⟨by decide +kernel, by decide +kernel⟩, lw_t1 (List.mem_of_getElem? (i := 36) rfl), lw_t6 (List.mem_of_getElem? (i := 36) rfl), lw_t6 (List.mem_of_getElem? (i := 37) rfl)⟩
theorem lw_p28 : lw_okq (⟨"EverybodyHasTheBook$Rounds", "goes", "(I)V"⟩, 6) := ⟨⟨by decide +kernel, by decide +kernel⟩, lw_t6 (List.mem_of_getElem? (i := 48) rfl), lw_t6 (List.mem_of_getElem? (i := 54) rfl), lw_t6 (List.mem_of_getElem? (i := 55) rfl)⟩
theorem lw_p29 : lw_okq (⟨"EverybodyHasTheBook$Rounds", "brings", "()I"⟩, 6) := ⟨⟨by decide +kernel, by decide +kernel⟩, lw_t6 (List.mem_of_getElem? (i := 48) rfl), lw_t6 (List.mem_of_getElem? (i := 58) rfl), lw_t6 (List.mem_of_getElem? (i := 59) rfl)⟩
theorem lw_p30 : lw_okq (⟨"EverybodyHasTheBook", "lives", "(I)I"⟩, 7) := ⟨⟨by decide +kernel, by decide +kernel⟩, lw_t1 (List.mem_of_getElem? (i := 36) rfl), lw_t6 (List.mem_of_getElem? (i := 127) rfl), lw_t6 (List.mem_of_getElem? (i := 128) rfl)⟩
theorem lw_p31 : lw_okq (⟨"EverybodyHasTheBook", "inBook", "()I"⟩, 7) := ⟨⟨by decide +kernel, by decide +kernel⟩, lw_t1 (List.mem_of_getElem? (i := 36) rfl), lw_t6 (List.mem_of_getElem? (i := 165) rfl), lw_t6 (List.mem_of_getElem? (i := 166) rfl)⟩
def lw_privs_2 : List (MethodName × Nat) := [(⟨"EverybodyHasTheBook$Reader", "letter", "()V"⟩, 7), (⟨"EverybodyHasTheBook$Reader", "write", "()V"⟩, 7), (⟨"EverybodyHasTheBook", "noLow", "(I)I"⟩, 7), (⟨"EverybodyHasTheBook$Valley", "empties", "()V"⟩, 17), (⟨"EverybodyHasTheBook$Valley", "comes", "(II)V"⟩, 17), (⟨"EverybodyHasTheBook$Valley", "open", "()I"⟩, 17), (⟨"EverybodyHasTheBook", "tried", "()LEverybodyHasTheBook$Valley;"⟩, 7), (⟨"EverybodyHasTheBook", "isWanted", "(LEverybodyHasTheBook$Valley;I)Z"⟩, 7), (⟨"EverybodyHasTheBook", "wrongIn", "(Ljava/lang/Object;)I"⟩, 7), (⟨"EverybodyHasTheBook$Valley", "ages", "(I)V"⟩, 17), (⟨"EverybodyHasTheBook", "writtenBy", "(II)I"⟩, 7), (⟨"EverybodyHasTheBook", "bookOf", "(II)I"⟩, 7), (⟨"EverybodyHasTheBook$Rounds", "goes", "(I)V"⟩, 6), (⟨"EverybodyHasTheBook$Rounds", "brings", "()I"⟩, 6), (⟨"EverybodyHasTheBook", "lives", "(I)I"⟩, 7), (⟨"EverybodyHasTheBook", "inBook", "()I"⟩, 7)]
theorem lw_r2 : ∀ q ∈ lw_privs_2, lw_okq q := List.forall_mem_cons.mpr ⟨lw_p16, List.forall_mem_cons.mpr ⟨lw_p17, List.forall_mem_cons.mpr ⟨lw_p18, List.forall_mem_cons.mpr ⟨lw_p19, List.forall_mem_cons.mpr ⟨lw_p20, List.forall_mem_cons.mpr ⟨lw_p21, List.forall_mem_cons.mpr ⟨lw_p22, List.forall_mem_cons.mpr ⟨lw_p23, List.forall_mem_cons.mpr ⟨lw_p24, List.forall_mem_cons.mpr ⟨lw_p25, List.forall_mem_cons.mpr ⟨lw_p26, List.forall_mem_cons.mpr ⟨lw_p27, List.forall_mem_cons.mpr ⟨lw_p28, List.forall_mem_cons.mpr ⟨lw_p29, List.forall_mem_cons.mpr ⟨lw_p30, List.forall_mem_cons.mpr ⟨lw_p31, fun _ h => absurd h List.not_mem_nil⟩⟩⟩⟩⟩⟩⟩⟩⟩⟩⟩⟩⟩⟩⟩⟩
theorem lw_p32 : lw_okq (⟨"EverybodyHasTheBook", "held", "()I"⟩, 7) := ⟨⟨by decide +kernel, by decide +kernel⟩, lw_t1 (List.mem_of_getElem? (i := 36) rfl), lw_t6 (List.mem_of_getElem? (i := 172) rfl), lw_t6 (List.mem_of_getElem? (i := 173) rfl)⟩
theorem lw_p33 : lw_okq (⟨"EverybodyHasTheBookModel", "refuse", "(I)I"⟩, 34) := ⟨⟨by decide +kernel, by decide +kernel⟩, lw_t6 (List.mem_of_getElem? (i := 176) rfl), lw_t7 (List.mem_of_getElem? (i := 58) rfl), lw_t7 (List.mem_of_getElem? (i := 59) rfl)⟩
theorem lw_p34 : lw_okq (⟨"EverybodyHasTheBookModel", "noRow", "(I)I"⟩, 34) := ⟨⟨by decide +kernel, by decide +kernel⟩, lw_t6 (List.mem_of_getElem? (i := 176) rfl), lw_t7 (List.mem_of_getElem? (i := 66) rfl), lw_t7 (List.mem_of_getElem? (i := 67) rfl)⟩
theorem lw_p35 : lw_okq (⟨"EverybodyHasTheBookModel", "isGoer", "(I)Z"⟩, 34) := ⟨⟨by decide +kernel, by decide +kernel⟩, lw_t6 (List.mem_of_getElem? (i := 176) rfl), lw_t7 (List.mem_of_getElem? (i := 89) rfl), lw_t7 (List.mem_of_getElem? (i := 90) rfl)⟩
theorem lw_p36 : lw_okq (⟨"EverybodyHasTheBookModel", "choiceOf", "(I)I"⟩, 34) := ⟨⟨by decide +kernel, by decide +kernel⟩, lw_t6 (List.mem_of_getElem? (i := 176) rfl), lw_t7 (List.mem_of_getElem? (i := 101) rfl), lw_t7 (List.mem_of_getElem? (i := 102) rfl)⟩
theorem lw_p37 : lw_okq (⟨"EverybodyHasTheBookModel", "scoreOf", "(II)I"⟩, 34) := ⟨⟨by decide +kernel, by decide +kernel⟩, lw_t6 (List.mem_of_getElem? (i := 176) rfl), lw_t7 (List.mem_of_getElem? (i := 105) rfl), lw_t7 (List.mem_of_getElem? (i := 106) rfl)⟩
theorem lw_p38 : lw_okq (⟨"EverybodyHasTheBookModel", "scoreBy", "(III)I"⟩, 34) := ⟨⟨by decide +kernel, by decide +kernel⟩, lw_t6 (List.mem_of_getElem? (i := 176) rfl), lw_t7 (List.mem_of_getElem? (i := 109) rfl), lw_t7 (List.mem_of_getElem? (i := 110) rfl)⟩
theorem lw_p39 : lw_okq (⟨"EverybodyHasTheBookModel", "booked", "(I)I"⟩, 34) := ⟨⟨by decide +kernel, by decide +kernel⟩, lw_t6 (List.mem_of_getElem? (i := 176) rfl), lw_t7 (List.mem_of_getElem? (i := 113) rfl), lw_t7 (List.mem_of_getElem? (i := 114) rfl)⟩
theorem lw_p40 : lw_okq (⟨"EverybodyHasTheBookModel", "addInn", "(IIII)V"⟩, 34) := ⟨⟨by decide +kernel, by decide +kernel⟩, lw_t6 (List.mem_of_getElem? (i := 176) rfl), lw_t7 (List.mem_of_getElem? (i := 124) rfl), lw_t7 (List.mem_of_getElem? (i := 125) rfl)⟩
theorem lw_p41 : lw_okq (⟨"EverybodyHasTheBookModel", "isInn", "(I)Z"⟩, 34) := ⟨⟨by decide +kernel, by decide +kernel⟩, lw_t6 (List.mem_of_getElem? (i := 176) rfl), lw_t7 (List.mem_of_getElem? (i := 137) rfl), lw_t7 (List.mem_of_getElem? (i := 138) rfl)⟩
theorem lw_p42 : lw_okq (⟨"EverybodyHasTheBookModel", "isSet", "(I)Z"⟩, 34) := ⟨⟨by decide +kernel, by decide +kernel⟩, lw_t6 (List.mem_of_getElem? (i := 176) rfl), lw_t7 (List.mem_of_getElem? (i := 150) rfl), lw_t7 (List.mem_of_getElem? (i := 151) rfl)⟩
theorem lw_p43 : lw_okq (⟨"EverybodyHasTheBookModel", "writes", "(I)I"⟩, 34) := ⟨⟨by decide +kernel, by decide +kernel⟩, lw_t6 (List.mem_of_getElem? (i := 176) rfl), lw_t7 (List.mem_of_getElem? (i := 154) rfl), lw_t7 (List.mem_of_getElem? (i := 155) rfl)⟩
theorem lw_p44 : lw_okq (⟨"EverybodyHasTheBookModel", "getsLetter", "(II)V"⟩, 34) := ⟨⟨by decide +kernel, by decide +kernel⟩, lw_t6 (List.mem_of_getElem? (i := 176) rfl), lw_t7 (List.mem_of_getElem? (i := 162) rfl), lw_t7 (List.mem_of_getElem? (i := 163) rfl)⟩
theorem lw_p45 : lw_okq (⟨"EverybodyHasTheBookModel", "fresh", "()LEverybodyHasTheBookModel;"⟩, 34) := ⟨⟨by decide +kernel, by decide +kernel⟩, lw_t6 (List.mem_of_getElem? (i := 176) rfl), lw_t7 (List.mem_of_getElem? (i := 187) rfl), lw_t7 (List.mem_of_getElem? (i := 188) rfl)⟩
theorem lw_p46 : lw_okq (⟨"EverybodyHasTheBookModel", "takeFrom", "(LEverybodyHasTheBookModel;)V"⟩, 34) := ⟨⟨by decide +kernel, by decide +kernel⟩, lw_t6 (List.mem_of_getElem? (i := 176) rfl), lw_t7 (List.mem_of_getElem? (i := 193) rfl), lw_t7 (List.mem_of_getElem? (i := 194) rfl)⟩
theorem lw_p47 : lw_okq (⟨"EverybodyHasTheBookModel", "readAll", "()Z"⟩, 34) := ⟨⟨by decide +kernel, by decide +kernel⟩, lw_t6 (List.mem_of_getElem? (i := 176) rfl), lw_t7 (List.mem_of_getElem? (i := 200) rfl), lw_t7 (List.mem_of_getElem? (i := 201) rfl)⟩
def lw_privs_3 : List (MethodName × Nat) := [(⟨"EverybodyHasTheBook", "held", "()I"⟩, 7), (⟨"EverybodyHasTheBookModel", "refuse", "(I)I"⟩, 34), (⟨"EverybodyHasTheBookModel", "noRow", "(I)I"⟩, 34), (⟨"EverybodyHasTheBookModel", "isGoer", "(I)Z"⟩, 34), (⟨"EverybodyHasTheBookModel", "choiceOf", "(I)I"⟩, 34), (⟨"EverybodyHasTheBookModel", "scoreOf", "(II)I"⟩, 34), (⟨"EverybodyHasTheBookModel", "scoreBy", "(III)I"⟩, 34), (⟨"EverybodyHasTheBookModel", "booked", "(I)I"⟩, 34), (⟨"EverybodyHasTheBookModel", "addInn", "(IIII)V"⟩, 34), (⟨"EverybodyHasTheBookModel", "isInn", "(I)Z"⟩, 34), (⟨"EverybodyHasTheBookModel", "isSet", "(I)Z"⟩, 34), (⟨"EverybodyHasTheBookModel", "writes", "(I)I"⟩, 34), (⟨"EverybodyHasTheBookModel", "getsLetter", "(II)V"⟩, 34), (⟨"EverybodyHasTheBookModel", "fresh", "()LEverybodyHasTheBookModel;"⟩, 34), (⟨"EverybodyHasTheBookModel", "takeFrom", "(LEverybodyHasTheBookModel;)V"⟩, 34), (⟨"EverybodyHasTheBookModel", "readAll", "()Z"⟩, 34)]
theorem lw_r3 : ∀ q ∈ lw_privs_3, lw_okq q := List.forall_mem_cons.mpr ⟨lw_p32, List.forall_mem_cons.mpr ⟨lw_p33, List.forall_mem_cons.mpr ⟨lw_p34, List.forall_mem_cons.mpr ⟨lw_p35, List.forall_mem_cons.mpr ⟨lw_p36, List.forall_mem_cons.mpr ⟨lw_p37, List.forall_mem_cons.mpr ⟨lw_p38, List.forall_mem_cons.mpr ⟨lw_p39, List.forall_mem_cons.mpr ⟨lw_p40, List.forall_mem_cons.mpr ⟨lw_p41, List.forall_mem_cons.mpr ⟨lw_p42, List.forall_mem_cons.mpr ⟨lw_p43, List.forall_mem_cons.mpr ⟨lw_p44, List.forall_mem_cons.mpr ⟨lw_p45, List.forall_mem_cons.mpr ⟨lw_p46, List.forall_mem_cons.mpr ⟨lw_p47, fun _ h => absurd h List.not_mem_nil⟩⟩⟩⟩⟩⟩⟩⟩⟩⟩⟩⟩⟩⟩⟩⟩
theorem lw_p48 : lw_okq (⟨"EverybodyHasTheBookModel", "look", "()V"⟩, 34) := ⟨⟨by decide +kernel, by decide +kernel⟩, lw_t6 (List.mem_of_getElem? (i := 176) rfl), lw_t7 (List.mem_of_getElem? (i := 204) rfl), lw_t7 (List.mem_of_getElem? (i := 205) rfl)⟩
theorem lw_p49 : lw_okq (⟨"EverybodyHasTheBookModel", "statement", "()Z"⟩, 34) := ⟨⟨by decide +kernel, by decide +kernel⟩, lw_t6 (List.mem_of_getElem? (i := 176) rfl), lw_t7 (List.mem_of_getElem? (i := 215) rfl), lw_t7 (List.mem_of_getElem? (i := 216) rfl)⟩
theorem lw_p50 : lw_okq (⟨"EverybodyHasTheBookModel", "isWord", "(Ljava/lang/String;)Z"⟩, 34) := ⟨⟨by decide +kernel, by decide +kernel⟩, lw_t6 (List.mem_of_getElem? (i := 176) rfl), lw_t7 (List.mem_of_getElem? (i := 220) rfl), lw_t7 (List.mem_of_getElem? (i := 221) rfl)⟩
theorem lw_p51 : lw_okq (⟨"EverybodyHasTheBookModel", "innTold", "()Z"⟩, 34) := ⟨⟨by decide +kernel, by decide +kernel⟩, lw_t6 (List.mem_of_getElem? (i := 176) rfl), lw_t8 (List.mem_of_getElem? (i := 3) rfl), lw_t8 (List.mem_of_getElem? (i := 4) rfl)⟩
theorem lw_p52 : lw_okq (⟨"EverybodyHasTheBookModel", "tells", "(II)Z"⟩, 34) := ⟨⟨by decide +kernel, by decide +kernel⟩, lw_t6 (List.mem_of_getElem? (i := 176) rfl), lw_t8 (List.mem_of_getElem? (i := 7) rfl), lw_t8 (List.mem_of_getElem? (i := 8) rfl)⟩
theorem lw_p53 : lw_okq (⟨"EverybodyHasTheBookModel", "number", "(III)Z"⟩, 34) := ⟨⟨by decide +kernel, by decide +kernel⟩, lw_t6 (List.mem_of_getElem? (i := 176) rfl), lw_t8 (List.mem_of_getElem? (i := 11) rfl), lw_t8 (List.mem_of_getElem? (i := 12) rfl)⟩
theorem lw_p54 : lw_okq (⟨"EverybodyHasTheBookModel", "wrong", "()Z"⟩, 34) := ⟨⟨by decide +kernel, by decide +kernel⟩, lw_t6 (List.mem_of_getElem? (i := 176) rfl), lw_t8 (List.mem_of_getElem? (i := 15) rfl), lw_t8 (List.mem_of_getElem? (i := 16) rfl)⟩
theorem lw_p55 : lw_okq (⟨"EverybodyHasTheBookModel", "letterTold", "()Z"⟩, 34) := ⟨⟨by decide +kernel, by decide +kernel⟩, lw_t6 (List.mem_of_getElem? (i := 176) rfl), lw_t8 (List.mem_of_getElem? (i := 23) rfl), lw_t8 (List.mem_of_getElem? (i := 24) rfl)⟩
theorem lw_p56 : lw_okq (⟨"EverybodyHasTheBookModel", "writeTold", "()Z"⟩, 34) := ⟨⟨by decide +kernel, by decide +kernel⟩, lw_t6 (List.mem_of_getElem? (i := 176) rfl), lw_t8 (List.mem_of_getElem? (i := 28) rfl), lw_t8 (List.mem_of_getElem? (i := 29) rfl)⟩
theorem lw_p57 : lw_okq (⟨"EverybodyHasTheBookModel", "goThrough", "()V"⟩, 34) := ⟨⟨by decide +kernel, by decide +kernel⟩, lw_t6 (List.mem_of_getElem? (i := 176) rfl), lw_t8 (List.mem_of_getElem? (i := 52) rfl), lw_t8 (List.mem_of_getElem? (i := 53) rfl)⟩
theorem lw_p58 : lw_okq (⟨"EverybodyHasTheBookModel", "startNight", "()V"⟩, 34) := ⟨⟨by decide +kernel, by decide +kernel⟩, lw_t6 (List.mem_of_getElem? (i := 176) rfl), lw_t8 (List.mem_of_getElem? (i := 56) rfl), lw_t8 (List.mem_of_getElem? (i := 57) rfl)⟩
theorem lw_p59 : lw_okq (⟨"EverybodyHasTheBookModel", "comes", "(II)V"⟩, 34) := ⟨⟨by decide +kernel, by decide +kernel⟩, lw_t6 (List.mem_of_getElem? (i := 176) rfl), lw_t8 (List.mem_of_getElem? (i := 60) rfl), lw_t8 (List.mem_of_getElem? (i := 61) rfl)⟩
theorem lw_p60 : lw_okq (⟨"EverybodyHasTheBookModel", "headsIn", "(I)I"⟩, 34) := ⟨⟨by decide +kernel, by decide +kernel⟩, lw_t6 (List.mem_of_getElem? (i := 176) rfl), lw_t8 (List.mem_of_getElem? (i := 68) rfl), lw_t8 (List.mem_of_getElem? (i := 69) rfl)⟩
theorem lw_p61 : lw_okq (⟨"EverybodyHasTheBookModel", "joyBy", "(I)I"⟩, 34) := ⟨⟨by decide +kernel, by decide +kernel⟩, lw_t6 (List.mem_of_getElem? (i := 176) rfl), lw_t8 (List.mem_of_getElem? (i := 84) rfl), lw_t8 (List.mem_of_getElem? (i := 85) rfl)⟩
theorem lw_p62 : lw_okq (⟨"EverybodyHasTheBookModel", "joyOf", "(I)I"⟩, 34) := ⟨⟨by decide +kernel, by decide +kernel⟩, lw_t6 (List.mem_of_getElem? (i := 176) rfl), lw_t8 (List.mem_of_getElem? (i := 88) rfl), lw_t8 (List.mem_of_getElem? (i := 89) rfl)⟩
theorem lw_p63 : lw_okq (⟨"EverybodyHasTheBookModel", "isByBook", "(I)Z"⟩, 34) := ⟨⟨by decide +kernel, by decide +kernel⟩, lw_t6 (List.mem_of_getElem? (i := 176) rfl), lw_t8 (List.mem_of_getElem? (i := 100) rfl), lw_t8 (List.mem_of_getElem? (i := 101) rfl)⟩
def lw_privs_4 : List (MethodName × Nat) := [(⟨"EverybodyHasTheBookModel", "look", "()V"⟩, 34), (⟨"EverybodyHasTheBookModel", "statement", "()Z"⟩, 34), (⟨"EverybodyHasTheBookModel", "isWord", "(Ljava/lang/String;)Z"⟩, 34), (⟨"EverybodyHasTheBookModel", "innTold", "()Z"⟩, 34), (⟨"EverybodyHasTheBookModel", "tells", "(II)Z"⟩, 34), (⟨"EverybodyHasTheBookModel", "number", "(III)Z"⟩, 34), (⟨"EverybodyHasTheBookModel", "wrong", "()Z"⟩, 34), (⟨"EverybodyHasTheBookModel", "letterTold", "()Z"⟩, 34), (⟨"EverybodyHasTheBookModel", "writeTold", "()Z"⟩, 34), (⟨"EverybodyHasTheBookModel", "goThrough", "()V"⟩, 34), (⟨"EverybodyHasTheBookModel", "startNight", "()V"⟩, 34), (⟨"EverybodyHasTheBookModel", "comes", "(II)V"⟩, 34), (⟨"EverybodyHasTheBookModel", "headsIn", "(I)I"⟩, 34), (⟨"EverybodyHasTheBookModel", "joyBy", "(I)I"⟩, 34), (⟨"EverybodyHasTheBookModel", "joyOf", "(I)I"⟩, 34), (⟨"EverybodyHasTheBookModel", "isByBook", "(I)Z"⟩, 34)]
theorem lw_r4 : ∀ q ∈ lw_privs_4, lw_okq q := List.forall_mem_cons.mpr ⟨lw_p48, List.forall_mem_cons.mpr ⟨lw_p49, List.forall_mem_cons.mpr ⟨lw_p50, List.forall_mem_cons.mpr ⟨lw_p51, List.forall_mem_cons.mpr ⟨lw_p52, List.forall_mem_cons.mpr ⟨lw_p53, List.forall_mem_cons.mpr ⟨lw_p54, List.forall_mem_cons.mpr ⟨lw_p55, List.forall_mem_cons.mpr ⟨lw_p56, List.forall_mem_cons.mpr ⟨lw_p57, List.forall_mem_cons.mpr ⟨lw_p58, List.forall_mem_cons.mpr ⟨lw_p59, List.forall_mem_cons.mpr ⟨lw_p60, List.forall_mem_cons.mpr ⟨lw_p61, List.forall_mem_cons.mpr ⟨lw_p62, List.forall_mem_cons.mpr ⟨lw_p63, fun _ h => absurd h List.not_mem_nil⟩⟩⟩⟩⟩⟩⟩⟩⟩⟩⟩⟩⟩⟩⟩⟩
theorem lw_p64 : lw_okq (⟨"EverybodyHasTheBookModel", "truestOf", "()I"⟩, 34) := ⟨⟨by decide +kernel, by decide +kernel⟩, lw_t6 (List.mem_of_getElem? (i := 176) rfl), lw_t8 (List.mem_of_getElem? (i := 112) rfl), lw_t8 (List.mem_of_getElem? (i := 113) rfl)⟩
theorem lw_p65 : lw_okq (⟨"EverybodyHasTheBookModel", "wrongBy", "(I)I"⟩, 34) := ⟨⟨by decide +kernel, by decide +kernel⟩, lw_t6 (List.mem_of_getElem? (i := 176) rfl), lw_t8 (List.mem_of_getElem? (i := 120) rfl), lw_t8 (List.mem_of_getElem? (i := 121) rfl)⟩
theorem lw_p66 : lw_okq (⟨"EverybodyHasTheBookModel", "isChoice", "(I)Z"⟩, 34) := ⟨⟨by decide +kernel, by decide +kernel⟩, lw_t6 (List.mem_of_getElem? (i := 176) rfl), lw_t8 (List.mem_of_getElem? (i := 136) rfl), lw_t8 (List.mem_of_getElem? (i := 137) rfl)⟩
theorem lw_p67 : lw_okq (⟨"EverybodyHasTheBookModel", "readBook", "(I)V"⟩, 34) := ⟨⟨by decide +kernel, by decide +kernel⟩, lw_t6 (List.mem_of_getElem? (i := 176) rfl), lw_t8 (List.mem_of_getElem? (i := 152) rfl), lw_t8 (List.mem_of_getElem? (i := 153) rfl)⟩
theorem lw_p68 : lw_okq (⟨"EverybodyHasTheBookModel", "joyIn", "(II)I"⟩, 34) := ⟨⟨by decide +kernel, by decide +kernel⟩, lw_t6 (List.mem_of_getElem? (i := 176) rfl), lw_t8 (List.mem_of_getElem? (i := 168) rfl), lw_t8 (List.mem_of_getElem? (i := 169) rfl)⟩
theorem lw_p69 : lw_okq (⟨"EverybodyHasTheBookModel", "yearGoesBy", "()V"⟩, 34) := ⟨⟨by decide +kernel, by decide +kernel⟩, lw_t6 (List.mem_of_getElem? (i := 176) rfl), lw_t8 (List.mem_of_getElem? (i := 172) rfl), lw_t8 (List.mem_of_getElem? (i := 173) rfl)⟩
theorem lw_p70 : lw_okq (⟨"EverybodyHasTheBookModel", "bestBook", "(II)I"⟩, 34) := ⟨⟨by decide +kernel, by decide +kernel⟩, lw_t6 (List.mem_of_getElem? (i := 176) rfl), lw_t8 (List.mem_of_getElem? (i := 187) rfl), lw_t8 (List.mem_of_getElem? (i := 188) rfl)⟩
theorem lw_p71 : lw_okq (⟨"EverybodyHasTheBookModel", "writtenBy", "(II)I"⟩, 34) := ⟨⟨by decide +kernel, by decide +kernel⟩, lw_t6 (List.mem_of_getElem? (i := 176) rfl), lw_t8 (List.mem_of_getElem? (i := 191) rfl), lw_t8 (List.mem_of_getElem? (i := 192) rfl)⟩
theorem lw_p72 : lw_okq (⟨"EverybodyHasTheBookModel", "findRound", "(I)V"⟩, 34) := ⟨⟨by decide +kernel, by decide +kernel⟩, lw_t6 (List.mem_of_getElem? (i := 176) rfl), lw_t8 (List.mem_of_getElem? (i := 208) rfl), lw_t8 (List.mem_of_getElem? (i := 209) rfl)⟩
theorem lw_p73 : lw_okq (⟨"EverybodyHasTheBookModel", "ownJoy", "(I)I"⟩, 34) := ⟨⟨by decide +kernel, by decide +kernel⟩, lw_t6 (List.mem_of_getElem? (i := 176) rfl), lw_t8 (List.mem_of_getElem? (i := 216) rfl), lw_t8 (List.mem_of_getElem? (i := 217) rfl)⟩
theorem lw_p74 : lw_okq (⟨"EverybodyHasTheBookModel", "draw", "(I)I"⟩, 34) := ⟨⟨by decide +kernel, by decide +kernel⟩, lw_t6 (List.mem_of_getElem? (i := 176) rfl), lw_t9 (List.mem_of_getElem? (i := 12) rfl), lw_t9 (List.mem_of_getElem? (i := 13) rfl)⟩
def lw_privs_5 : List (MethodName × Nat) := [(⟨"EverybodyHasTheBookModel", "truestOf", "()I"⟩, 34), (⟨"EverybodyHasTheBookModel", "wrongBy", "(I)I"⟩, 34), (⟨"EverybodyHasTheBookModel", "isChoice", "(I)Z"⟩, 34), (⟨"EverybodyHasTheBookModel", "readBook", "(I)V"⟩, 34), (⟨"EverybodyHasTheBookModel", "joyIn", "(II)I"⟩, 34), (⟨"EverybodyHasTheBookModel", "yearGoesBy", "()V"⟩, 34), (⟨"EverybodyHasTheBookModel", "bestBook", "(II)I"⟩, 34), (⟨"EverybodyHasTheBookModel", "writtenBy", "(II)I"⟩, 34), (⟨"EverybodyHasTheBookModel", "findRound", "(I)V"⟩, 34), (⟨"EverybodyHasTheBookModel", "ownJoy", "(I)I"⟩, 34), (⟨"EverybodyHasTheBookModel", "draw", "(I)I"⟩, 34)]
theorem lw_r5 : ∀ q ∈ lw_privs_5, lw_okq q := List.forall_mem_cons.mpr ⟨lw_p64, List.forall_mem_cons.mpr ⟨lw_p65, List.forall_mem_cons.mpr ⟨lw_p66, List.forall_mem_cons.mpr ⟨lw_p67, List.forall_mem_cons.mpr ⟨lw_p68, List.forall_mem_cons.mpr ⟨lw_p69, List.forall_mem_cons.mpr ⟨lw_p70, List.forall_mem_cons.mpr ⟨lw_p71, List.forall_mem_cons.mpr ⟨lw_p72, List.forall_mem_cons.mpr ⟨lw_p73, List.forall_mem_cons.mpr ⟨lw_p74, fun _ h => absurd h List.not_mem_nil⟩⟩⟩⟩⟩⟩⟩⟩⟩⟩⟩
def lw_privs : List (MethodName × Nat) := lw_privs_1 ++ (lw_privs_2 ++ (lw_privs_3 ++ (lw_privs_4 ++ (lw_privs_5))))
def lw_tbl : List Cond := k2_sels lw_privs ++ tables_1
theorem lw_privs_ok : ∀ q ∈ lw_privs, lw_okq q := by
  show ∀ q ∈ lw_privs_1 ++ (lw_privs_2 ++ (lw_privs_3 ++ (lw_privs_4 ++ (lw_privs_5)))), lw_okq q
  exact List.forall_mem_append.mpr ⟨lw_r1, List.forall_mem_append.mpr ⟨lw_r2, List.forall_mem_append.mpr ⟨lw_r3, List.forall_mem_append.mpr ⟨lw_r4, lw_r5⟩⟩⟩⟩
-- ===== ONE list of words for every method: the tables' words that hold all through a run =====
def lw_all : List Cond := lw_tbl.filter goodWord
/-- a word of the tables by its place: claim/WORDS.tsv -/
theorem lw_w {w : Cond} (i : Nat) (h : lw_tbl[i]? = some w) (g : goodWord w = true) : w ∈ lw_all := List.mem_filter.mpr ⟨List.mem_of_getElem? h, g⟩
theorem lw_all_tbl {w : Cond} (h : w ∈ lw_all) : w ∈ lw_tbl := (List.mem_filter.mp h).1
theorem lw_self : GoodIn lw_all lw_all := fun w h => ⟨h, good_of_word (List.mem_filter.mp h).2⟩
/-- a class's field words, by their places -/
theorem lw_in (ws : List Cond) (ps : List Nat) (hp : ws = ps.filterMap (fun i => lw_tbl[i]?)) (hg : ws.all goodWord = true) : ∀ w ∈ ws, w ∈ lw_all := by
  intro w h
  have h1 := List.all_eq_true.mp hg w h
  rw [hp] at h
  obtain ⟨i, -, hi⟩ := List.mem_filterMap.mp h
  exact lw_w i hi h1
/-- the words of a contract for the method y with code b, L locals, answer r -/
abbrev ws_ (y : MethodName) (b : ByteArray) (L : Nat) (r : Option FieldType) : List Cond := Cond.code y b L r :: lw_all
theorem lw_meth {y : MethodName} {b : ByteArray} {L : Nat} {r : Option FieldType} (h : Cond.code y b L r ∈ lw_all) : GoodIn lw_all (ws_ y b L r) := by
  intro w hw
  rcases List.mem_cons.mp hw with e | e
  · rw [e]
    exact lw_self _ h
  · exact lw_self _ e
theorem lw_app {a c : List Cond} (ha : ∀ w ∈ a, w ∈ lw_all) (hc : GoodIn lw_all c) : GoodIn lw_all (a ++ c) := by
  intro w hw
  rcases List.mem_append.mp hw with e | e
  · exact lw_self w (ha w e)
  · exact hc w e
/-- what a call through an object asks: cwV n hts (lw_V ..) -/
theorem lw_V {own : String} {idx : Nat} {C : String} {y : MethodName} {b : ByteArray} {L : Nat} {r : Option FieldType} (h1 : Cond.methodLink own idx y ∈ lw_all) (h2 : Cond.instanceMethod y ∈ lw_all) (h3 : Cond.selects C y y ∈ lw_all) (h4 : Cond.initialized C ∈ lw_all) (h5 : Cond.code y b L r ∈ lw_all) : GoodIn lw_all (wsV own idx C y (ws_ y b L r)) := by
  refine lw_app ?_ (lw_meth h5)
  intro w hw
  simp only [List.mem_cons, List.not_mem_nil, or_false] at hw
  rcases hw with e | e | e | e
  · rw [e]; exact h1
  · rw [e]; exact h2
  · rw [e]; exact h3
  · rw [e]; exact h4
/-- what a static call asks: va_cwS n hts (lw_S ..) -/
theorem lw_S {own : String} {idx : Nat} {y : MethodName} {b : ByteArray} {L : Nat} {r : Option FieldType} (h1 : Cond.methodLink own idx y ∈ lw_all) (h2 : Cond.static y ∈ lw_all) (h3 : Cond.initialized y.cls ∈ lw_all) (h4 : Cond.code y b L r ∈ lw_all) : GoodIn lw_all (va_wsS own idx y (ws_ y b L r)) := by
  refine lw_app ?_ (lw_meth h4)
  intro w hw
  simp only [List.mem_cons, List.not_mem_nil, or_false] at hw
  rcases hw with e | e | e
  · rw [e]; exact h1
  · rw [e]; exact h2
  · rw [e]; exact h3
/-- the words of a contract for a method WITH HANDLERS (hh: its table) -/
abbrev wsW_ (y : MethodName) (b : ByteArray) (L : Nat) (r : Option FieldType) (hh : List (Nat × Nat × Nat × Nat)) : List Cond := Cond.codeWith y b L r hh :: lw_all
theorem lw_methW {y : MethodName} {b : ByteArray} {L : Nat} {r : Option FieldType} {hh : List (Nat × Nat × Nat × Nat)} (h : Cond.codeWith y b L r hh ∈ lw_all) : GoodIn lw_all (wsW_ y b L r hh) := by
  intro w hw
  rcases List.mem_cons.mp hw with e | e
  · rw [e]
    exact lw_self _ h
  · exact lw_self _ e
/-- any list of words by their places (lw_in), good -/
theorem lw_good {ws : List Cond} (h : ∀ w ∈ ws, w ∈ lw_all) : GoodIn lw_all ws := fun w hw => lw_self w (h w hw)
/-- what a call of a method with handlers asks: vx_cwVW n hts (lw_VW ..), vx_cwSW n hts (lw_SW ..) -/
theorem lw_VW {own : String} {idx : Nat} {C : String} {y : MethodName} {b : ByteArray} {L : Nat} {r : Option FieldType} {hh : List (Nat × Nat × Nat × Nat)} (h1 : Cond.methodLink own idx y ∈ lw_all) (h2 : Cond.instanceMethod y ∈ lw_all) (h3 : Cond.selects C y y ∈ lw_all) (h4 : Cond.initialized C ∈ lw_all) (h5 : Cond.codeWith y b L r hh ∈ lw_all) : GoodIn lw_all (wsV own idx C y (wsW_ y b L r hh)) := by
  refine lw_app ?_ (lw_methW h5)
  intro w hw
  simp only [List.mem_cons, List.not_mem_nil, or_false] at hw
  rcases hw with e | e | e | e
  · rw [e]; exact h1
  · rw [e]; exact h2
  · rw [e]; exact h3
  · rw [e]; exact h4
theorem lw_SW {own : String} {idx : Nat} {y : MethodName} {b : ByteArray} {L : Nat} {r : Option FieldType} {hh : List (Nat × Nat × Nat × Nat)} (h1 : Cond.methodLink own idx y ∈ lw_all) (h2 : Cond.static y ∈ lw_all) (h3 : Cond.initialized y.cls ∈ lw_all) (h4 : Cond.codeWith y b L r hh ∈ lw_all) : GoodIn lw_all (va_wsS own idx y (wsW_ y b L r hh)) := by
  refine lw_app ?_ (lw_methW h4)
  intro w hw
  simp only [List.mem_cons, List.not_mem_nil, or_false] at hw
  rcases hw with e | e | e
  · rw [e]; exact h1
  · rw [e]; exact h2
  · rw [e]; exact h3
/-- a word by its place in its run of the tables -/
theorem lw_at {r : List Cond} (hr : ∀ w ∈ r, w ∈ lw_tbl) {w : Cond} (i : Nat) (h : r[i]? = some w) : w ∈ lw_tbl := hr w (List.mem_of_getElem? h)
theorem lw_g {w : Cond} (h : w ∈ lw_tbl) (g : goodWord w = true) : w ∈ lw_all := List.mem_filter.mpr ⟨h, g⟩
theorem lw_ms : ∀ w ∈ k2_sels lw_privs, w ∈ lw_tbl := fun w h => show w ∈ k2_sels lw_privs ++ tables_1 from List.mem_append_left _ h
theorem lw_m1 : ∀ w ∈ tables_1_1, w ∈ lw_tbl := fun w h => show w ∈ k2_sels lw_privs ++ tables_1 from List.mem_append_right (k2_sels lw_privs) (show w ∈ tables_1 from List.mem_append_left _ h)
theorem lw_m2 : ∀ w ∈ tables_1_2, w ∈ lw_tbl := fun w h => show w ∈ k2_sels lw_privs ++ tables_1 from List.mem_append_right (k2_sels lw_privs) (show w ∈ tables_1 from List.mem_append_right _ (List.mem_append_left _ h))
theorem lw_m3 : ∀ w ∈ tables_1_3, w ∈ lw_tbl := fun w h => show w ∈ k2_sels lw_privs ++ tables_1 from List.mem_append_right (k2_sels lw_privs) (show w ∈ tables_1 from List.mem_append_right _ (List.mem_append_right _ (List.mem_append_left _ h)))
theorem lw_m4 : ∀ w ∈ tables_1_4, w ∈ lw_tbl := fun w h => show w ∈ k2_sels lw_privs ++ tables_1 from List.mem_append_right (k2_sels lw_privs) (show w ∈ tables_1 from List.mem_append_right _ (List.mem_append_right _ (List.mem_append_right _ (List.mem_append_left _ h))))
theorem lw_m5 : ∀ w ∈ tables_1_5, w ∈ lw_tbl := fun w h => show w ∈ k2_sels lw_privs ++ tables_1 from List.mem_append_right (k2_sels lw_privs) (show w ∈ tables_1 from List.mem_append_right _ (List.mem_append_right _ (List.mem_append_right _ (List.mem_append_right _ (List.mem_append_left _ h)))))
theorem lw_m6 : ∀ w ∈ tables_1_6, w ∈ lw_tbl := fun w h => show w ∈ k2_sels lw_privs ++ tables_1 from List.mem_append_right (k2_sels lw_privs) (show w ∈ tables_1 from List.mem_append_right _ (List.mem_append_right _ (List.mem_append_right _ (List.mem_append_right _ (List.mem_append_right _ (List.mem_append_left _ h))))))
theorem lw_m7 : ∀ w ∈ tables_1_7, w ∈ lw_tbl := fun w h => show w ∈ k2_sels lw_privs ++ tables_1 from List.mem_append_right (k2_sels lw_privs) (show w ∈ tables_1 from List.mem_append_right _ (List.mem_append_right _ (List.mem_append_right _ (List.mem_append_right _ (List.mem_append_right _ (List.mem_append_right _ (List.mem_append_left _ h)))))))
theorem lw_m8 : ∀ w ∈ tables_1_8, w ∈ lw_tbl := fun w h => show w ∈ k2_sels lw_privs ++ tables_1 from List.mem_append_right (k2_sels lw_privs) (show w ∈ tables_1 from List.mem_append_right _ (List.mem_append_right _ (List.mem_append_right _ (List.mem_append_right _ (List.mem_append_right _ (List.mem_append_right _ (List.mem_append_right _ (List.mem_append_left _ h))))))))
theorem lw_m9 : ∀ w ∈ tables_1_9, w ∈ lw_tbl := fun w h => show w ∈ k2_sels lw_privs ++ tables_1 from List.mem_append_right (k2_sels lw_privs) (show w ∈ tables_1 from List.mem_append_right _ (List.mem_append_right _ (List.mem_append_right _ (List.mem_append_right _ (List.mem_append_right _ (List.mem_append_right _ (List.mem_append_right _ (List.mem_append_right _ h))))))))
theorem qs0 : (Cond.selects "java/lang/NullPointerException" ⟨"java/lang/NullPointerException", "getExtendedNPEMessage", "()Ljava/lang/String;"⟩ ⟨"java/lang/NullPointerException", "getExtendedNPEMessage", "()Ljava/lang/String;"⟩) ∈ lw_all := lw_g (lw_at lw_ms 0 rfl) rfl
theorem qs1 : (Cond.selects "java/lang/Throwable" ⟨"java/lang/Throwable", "fillInStackTrace", "(I)Ljava/lang/Throwable;"⟩ ⟨"java/lang/Throwable", "fillInStackTrace", "(I)Ljava/lang/Throwable;"⟩) ∈ lw_all := lw_g (lw_at lw_ms 1 rfl) rfl
theorem qs2 : (Cond.selects "EverybodyHasTheBook" ⟨"EverybodyHasTheBook", "no", "(I)I"⟩ ⟨"EverybodyHasTheBook", "no", "(I)I"⟩) ∈ lw_all := lw_g (lw_at lw_ms 2 rfl) rfl
theorem qs3 : (Cond.selects "EverybodyHasTheBook" ⟨"EverybodyHasTheBook", "rowIn", "(I)Ljava/lang/Object;"⟩ ⟨"EverybodyHasTheBook", "rowIn", "(I)Ljava/lang/Object;"⟩) ∈ lw_all := lw_g (lw_at lw_ms 3 rfl) rfl
theorem qs4 : (Cond.selects "EverybodyHasTheBook" ⟨"EverybodyHasTheBook", "isGoer", "(I)Z"⟩ ⟨"EverybodyHasTheBook", "isGoer", "(I)Z"⟩) ∈ lw_all := lw_g (lw_at lw_ms 4 rfl) rfl
theorem qs5 : (Cond.selects "EverybodyHasTheBook" ⟨"EverybodyHasTheBook", "first", "(LEverybodyHasTheBook$Goer;)I"⟩ ⟨"EverybodyHasTheBook", "first", "(LEverybodyHasTheBook$Goer;)I"⟩) ∈ lw_all := lw_g (lw_at lw_ms 5 rfl) rfl
theorem qs6 : (Cond.selects "EverybodyHasTheBook" ⟨"EverybodyHasTheBook", "allInns", "()I"⟩ ⟨"EverybodyHasTheBook", "allInns", "()I"⟩) ∈ lw_all := lw_g (lw_at lw_ms 6 rfl) rfl
theorem qs7 : (Cond.selects "EverybodyHasTheBook$Reader" ⟨"EverybodyHasTheBook$Reader", "next", "()V"⟩ ⟨"EverybodyHasTheBook$Reader", "next", "()V"⟩) ∈ lw_all := lw_g (lw_at lw_ms 7 rfl) rfl
theorem qs8 : (Cond.selects "EverybodyHasTheBook$Reader" ⟨"EverybodyHasTheBook$Reader", "isIn", "(II)Z"⟩ ⟨"EverybodyHasTheBook$Reader", "isIn", "(II)Z"⟩) ∈ lw_all := lw_g (lw_at lw_ms 8 rfl) rfl
theorem qs9 : (Cond.selects "EverybodyHasTheBook$Reader" ⟨"EverybodyHasTheBook$Reader", "item", "()V"⟩ ⟨"EverybodyHasTheBook$Reader", "item", "()V"⟩) ∈ lw_all := lw_g (lw_at lw_ms 9 rfl) rfl
theorem qs10 : (Cond.selects "EverybodyHasTheBook$Reader" ⟨"EverybodyHasTheBook$Reader", "wrong", "()LEverybodyHasTheBook$Fault;"⟩ ⟨"EverybodyHasTheBook$Reader", "wrong", "()LEverybodyHasTheBook$Fault;"⟩) ∈ lw_all := lw_g (lw_at lw_ms 10 rfl) rfl
theorem qs11 : (Cond.selects "EverybodyHasTheBook$Reader" ⟨"EverybodyHasTheBook$Reader", "inn", "()V"⟩ ⟨"EverybodyHasTheBook$Reader", "inn", "()V"⟩) ∈ lw_all := lw_g (lw_at lw_ms 11 rfl) rfl
theorem qs12 : (Cond.selects "EverybodyHasTheBook$Reader" ⟨"EverybodyHasTheBook$Reader", "room", "(II)V"⟩ ⟨"EverybodyHasTheBook$Reader", "room", "(II)V"⟩) ∈ lw_all := lw_g (lw_at lw_ms 12 rfl) rfl
theorem qs13 : (Cond.selects "EverybodyHasTheBook$Reader" ⟨"EverybodyHasTheBook$Reader", "number", "(II)I"⟩ ⟨"EverybodyHasTheBook$Reader", "number", "(II)I"⟩) ∈ lw_all := lw_g (lw_at lw_ms 13 rfl) rfl
theorem qs14 : (Cond.selects "EverybodyHasTheBook$Reader" ⟨"EverybodyHasTheBook$Reader", "takes", "(Ljava/lang/String;)Z"⟩ ⟨"EverybodyHasTheBook$Reader", "takes", "(Ljava/lang/String;)Z"⟩) ∈ lw_all := lw_g (lw_at lw_ms 14 rfl) rfl
theorem qs15 : (Cond.selects "EverybodyHasTheBook$Reader" ⟨"EverybodyHasTheBook$Reader", "goer", "()V"⟩ ⟨"EverybodyHasTheBook$Reader", "goer", "()V"⟩) ∈ lw_all := lw_g (lw_at lw_ms 15 rfl) rfl
theorem qs16 : (Cond.selects "EverybodyHasTheBook$Reader" ⟨"EverybodyHasTheBook$Reader", "letter", "()V"⟩ ⟨"EverybodyHasTheBook$Reader", "letter", "()V"⟩) ∈ lw_all := lw_g (lw_at lw_ms 16 rfl) rfl
theorem qs17 : (Cond.selects "EverybodyHasTheBook$Reader" ⟨"EverybodyHasTheBook$Reader", "write", "()V"⟩ ⟨"EverybodyHasTheBook$Reader", "write", "()V"⟩) ∈ lw_all := lw_g (lw_at lw_ms 17 rfl) rfl
theorem qs18 : (Cond.selects "EverybodyHasTheBook" ⟨"EverybodyHasTheBook", "noLow", "(I)I"⟩ ⟨"EverybodyHasTheBook", "noLow", "(I)I"⟩) ∈ lw_all := lw_g (lw_at lw_ms 18 rfl) rfl
theorem qs19 : (Cond.selects "EverybodyHasTheBook$Valley" ⟨"EverybodyHasTheBook$Valley", "empties", "()V"⟩ ⟨"EverybodyHasTheBook$Valley", "empties", "()V"⟩) ∈ lw_all := lw_g (lw_at lw_ms 19 rfl) rfl
theorem qs20 : (Cond.selects "EverybodyHasTheBook$Valley" ⟨"EverybodyHasTheBook$Valley", "comes", "(II)V"⟩ ⟨"EverybodyHasTheBook$Valley", "comes", "(II)V"⟩) ∈ lw_all := lw_g (lw_at lw_ms 20 rfl) rfl
theorem qs21 : (Cond.selects "EverybodyHasTheBook$Valley" ⟨"EverybodyHasTheBook$Valley", "open", "()I"⟩ ⟨"EverybodyHasTheBook$Valley", "open", "()I"⟩) ∈ lw_all := lw_g (lw_at lw_ms 21 rfl) rfl
theorem qs22 : (Cond.selects "EverybodyHasTheBook" ⟨"EverybodyHasTheBook", "tried", "()LEverybodyHasTheBook$Valley;"⟩ ⟨"EverybodyHasTheBook", "tried", "()LEverybodyHasTheBook$Valley;"⟩) ∈ lw_all := lw_g (lw_at lw_ms 22 rfl) rfl
theorem qs23 : (Cond.selects "EverybodyHasTheBook" ⟨"EverybodyHasTheBook", "isWanted", "(LEverybodyHasTheBook$Valley;I)Z"⟩ ⟨"EverybodyHasTheBook", "isWanted", "(LEverybodyHasTheBook$Valley;I)Z"⟩) ∈ lw_all := lw_g (lw_at lw_ms 23 rfl) rfl
theorem qs24 : (Cond.selects "EverybodyHasTheBook" ⟨"EverybodyHasTheBook", "wrongIn", "(Ljava/lang/Object;)I"⟩ ⟨"EverybodyHasTheBook", "wrongIn", "(Ljava/lang/Object;)I"⟩) ∈ lw_all := lw_g (lw_at lw_ms 24 rfl) rfl
theorem qs25 : (Cond.selects "EverybodyHasTheBook$Valley" ⟨"EverybodyHasTheBook$Valley", "ages", "(I)V"⟩ ⟨"EverybodyHasTheBook$Valley", "ages", "(I)V"⟩) ∈ lw_all := lw_g (lw_at lw_ms 25 rfl) rfl
theorem qs26 : (Cond.selects "EverybodyHasTheBook" ⟨"EverybodyHasTheBook", "writtenBy", "(II)I"⟩ ⟨"EverybodyHasTheBook", "writtenBy", "(II)I"⟩) ∈ lw_all := lw_g (lw_at lw_ms 26 rfl) rfl
theorem qs27 : (Cond.selects "EverybodyHasTheBook" ⟨"EverybodyHasTheBook", "bookOf", "(II)I"⟩ ⟨"EverybodyHasTheBook", "bookOf", "(II)I"⟩) ∈ lw_all := lw_g (lw_at lw_ms 27 rfl) rfl
theorem qs28 : (Cond.selects "EverybodyHasTheBook$Rounds" ⟨"EverybodyHasTheBook$Rounds", "goes", "(I)V"⟩ ⟨"EverybodyHasTheBook$Rounds", "goes", "(I)V"⟩) ∈ lw_all := lw_g (lw_at lw_ms 28 rfl) rfl
theorem qs29 : (Cond.selects "EverybodyHasTheBook$Rounds" ⟨"EverybodyHasTheBook$Rounds", "brings", "()I"⟩ ⟨"EverybodyHasTheBook$Rounds", "brings", "()I"⟩) ∈ lw_all := lw_g (lw_at lw_ms 29 rfl) rfl
theorem qs30 : (Cond.selects "EverybodyHasTheBook" ⟨"EverybodyHasTheBook", "lives", "(I)I"⟩ ⟨"EverybodyHasTheBook", "lives", "(I)I"⟩) ∈ lw_all := lw_g (lw_at lw_ms 30 rfl) rfl
theorem qs31 : (Cond.selects "EverybodyHasTheBook" ⟨"EverybodyHasTheBook", "inBook", "()I"⟩ ⟨"EverybodyHasTheBook", "inBook", "()I"⟩) ∈ lw_all := lw_g (lw_at lw_ms 31 rfl) rfl
theorem qs32 : (Cond.selects "EverybodyHasTheBook" ⟨"EverybodyHasTheBook", "held", "()I"⟩ ⟨"EverybodyHasTheBook", "held", "()I"⟩) ∈ lw_all := lw_g (lw_at lw_ms 32 rfl) rfl
theorem qs33 : (Cond.selects "EverybodyHasTheBookModel" ⟨"EverybodyHasTheBookModel", "refuse", "(I)I"⟩ ⟨"EverybodyHasTheBookModel", "refuse", "(I)I"⟩) ∈ lw_all := lw_g (lw_at lw_ms 33 rfl) rfl
theorem qs34 : (Cond.selects "EverybodyHasTheBookModel" ⟨"EverybodyHasTheBookModel", "noRow", "(I)I"⟩ ⟨"EverybodyHasTheBookModel", "noRow", "(I)I"⟩) ∈ lw_all := lw_g (lw_at lw_ms 34 rfl) rfl
theorem qs35 : (Cond.selects "EverybodyHasTheBookModel" ⟨"EverybodyHasTheBookModel", "isGoer", "(I)Z"⟩ ⟨"EverybodyHasTheBookModel", "isGoer", "(I)Z"⟩) ∈ lw_all := lw_g (lw_at lw_ms 35 rfl) rfl
theorem qs36 : (Cond.selects "EverybodyHasTheBookModel" ⟨"EverybodyHasTheBookModel", "choiceOf", "(I)I"⟩ ⟨"EverybodyHasTheBookModel", "choiceOf", "(I)I"⟩) ∈ lw_all := lw_g (lw_at lw_ms 36 rfl) rfl
theorem qs37 : (Cond.selects "EverybodyHasTheBookModel" ⟨"EverybodyHasTheBookModel", "scoreOf", "(II)I"⟩ ⟨"EverybodyHasTheBookModel", "scoreOf", "(II)I"⟩) ∈ lw_all := lw_g (lw_at lw_ms 37 rfl) rfl
theorem qs38 : (Cond.selects "EverybodyHasTheBookModel" ⟨"EverybodyHasTheBookModel", "scoreBy", "(III)I"⟩ ⟨"EverybodyHasTheBookModel", "scoreBy", "(III)I"⟩) ∈ lw_all := lw_g (lw_at lw_ms 38 rfl) rfl
theorem qs39 : (Cond.selects "EverybodyHasTheBookModel" ⟨"EverybodyHasTheBookModel", "booked", "(I)I"⟩ ⟨"EverybodyHasTheBookModel", "booked", "(I)I"⟩) ∈ lw_all := lw_g (lw_at lw_ms 39 rfl) rfl
theorem qs40 : (Cond.selects "EverybodyHasTheBookModel" ⟨"EverybodyHasTheBookModel", "addInn", "(IIII)V"⟩ ⟨"EverybodyHasTheBookModel", "addInn", "(IIII)V"⟩) ∈ lw_all := lw_g (lw_at lw_ms 40 rfl) rfl
theorem qs41 : (Cond.selects "EverybodyHasTheBookModel" ⟨"EverybodyHasTheBookModel", "isInn", "(I)Z"⟩ ⟨"EverybodyHasTheBookModel", "isInn", "(I)Z"⟩) ∈ lw_all := lw_g (lw_at lw_ms 41 rfl) rfl
theorem qs42 : (Cond.selects "EverybodyHasTheBookModel" ⟨"EverybodyHasTheBookModel", "isSet", "(I)Z"⟩ ⟨"EverybodyHasTheBookModel", "isSet", "(I)Z"⟩) ∈ lw_all := lw_g (lw_at lw_ms 42 rfl) rfl
theorem qs43 : (Cond.selects "EverybodyHasTheBookModel" ⟨"EverybodyHasTheBookModel", "writes", "(I)I"⟩ ⟨"EverybodyHasTheBookModel", "writes", "(I)I"⟩) ∈ lw_all := lw_g (lw_at lw_ms 43 rfl) rfl
theorem qs44 : (Cond.selects "EverybodyHasTheBookModel" ⟨"EverybodyHasTheBookModel", "getsLetter", "(II)V"⟩ ⟨"EverybodyHasTheBookModel", "getsLetter", "(II)V"⟩) ∈ lw_all := lw_g (lw_at lw_ms 44 rfl) rfl
theorem qs45 : (Cond.selects "EverybodyHasTheBookModel" ⟨"EverybodyHasTheBookModel", "fresh", "()LEverybodyHasTheBookModel;"⟩ ⟨"EverybodyHasTheBookModel", "fresh", "()LEverybodyHasTheBookModel;"⟩) ∈ lw_all := lw_g (lw_at lw_ms 45 rfl) rfl
theorem qs46 : (Cond.selects "EverybodyHasTheBookModel" ⟨"EverybodyHasTheBookModel", "takeFrom", "(LEverybodyHasTheBookModel;)V"⟩ ⟨"EverybodyHasTheBookModel", "takeFrom", "(LEverybodyHasTheBookModel;)V"⟩) ∈ lw_all := lw_g (lw_at lw_ms 46 rfl) rfl
theorem qs47 : (Cond.selects "EverybodyHasTheBookModel" ⟨"EverybodyHasTheBookModel", "readAll", "()Z"⟩ ⟨"EverybodyHasTheBookModel", "readAll", "()Z"⟩) ∈ lw_all := lw_g (lw_at lw_ms 47 rfl) rfl
theorem qs48 : (Cond.selects "EverybodyHasTheBookModel" ⟨"EverybodyHasTheBookModel", "look", "()V"⟩ ⟨"EverybodyHasTheBookModel", "look", "()V"⟩) ∈ lw_all := lw_g (lw_at lw_ms 48 rfl) rfl
theorem qs49 : (Cond.selects "EverybodyHasTheBookModel" ⟨"EverybodyHasTheBookModel", "statement", "()Z"⟩ ⟨"EverybodyHasTheBookModel", "statement", "()Z"⟩) ∈ lw_all := lw_g (lw_at lw_ms 49 rfl) rfl
theorem qs50 : (Cond.selects "EverybodyHasTheBookModel" ⟨"EverybodyHasTheBookModel", "isWord", "(Ljava/lang/String;)Z"⟩ ⟨"EverybodyHasTheBookModel", "isWord", "(Ljava/lang/String;)Z"⟩) ∈ lw_all := lw_g (lw_at lw_ms 50 rfl) rfl
theorem qs51 : (Cond.selects "EverybodyHasTheBookModel" ⟨"EverybodyHasTheBookModel", "innTold", "()Z"⟩ ⟨"EverybodyHasTheBookModel", "innTold", "()Z"⟩) ∈ lw_all := lw_g (lw_at lw_ms 51 rfl) rfl
theorem qs52 : (Cond.selects "EverybodyHasTheBookModel" ⟨"EverybodyHasTheBookModel", "tells", "(II)Z"⟩ ⟨"EverybodyHasTheBookModel", "tells", "(II)Z"⟩) ∈ lw_all := lw_g (lw_at lw_ms 52 rfl) rfl
theorem qs53 : (Cond.selects "EverybodyHasTheBookModel" ⟨"EverybodyHasTheBookModel", "number", "(III)Z"⟩ ⟨"EverybodyHasTheBookModel", "number", "(III)Z"⟩) ∈ lw_all := lw_g (lw_at lw_ms 53 rfl) rfl
theorem qs54 : (Cond.selects "EverybodyHasTheBookModel" ⟨"EverybodyHasTheBookModel", "wrong", "()Z"⟩ ⟨"EverybodyHasTheBookModel", "wrong", "()Z"⟩) ∈ lw_all := lw_g (lw_at lw_ms 54 rfl) rfl
theorem qs55 : (Cond.selects "EverybodyHasTheBookModel" ⟨"EverybodyHasTheBookModel", "letterTold", "()Z"⟩ ⟨"EverybodyHasTheBookModel", "letterTold", "()Z"⟩) ∈ lw_all := lw_g (lw_at lw_ms 55 rfl) rfl
theorem qs56 : (Cond.selects "EverybodyHasTheBookModel" ⟨"EverybodyHasTheBookModel", "writeTold", "()Z"⟩ ⟨"EverybodyHasTheBookModel", "writeTold", "()Z"⟩) ∈ lw_all := lw_g (lw_at lw_ms 56 rfl) rfl
theorem qs57 : (Cond.selects "EverybodyHasTheBookModel" ⟨"EverybodyHasTheBookModel", "goThrough", "()V"⟩ ⟨"EverybodyHasTheBookModel", "goThrough", "()V"⟩) ∈ lw_all := lw_g (lw_at lw_ms 57 rfl) rfl
theorem qs58 : (Cond.selects "EverybodyHasTheBookModel" ⟨"EverybodyHasTheBookModel", "startNight", "()V"⟩ ⟨"EverybodyHasTheBookModel", "startNight", "()V"⟩) ∈ lw_all := lw_g (lw_at lw_ms 58 rfl) rfl
theorem qs59 : (Cond.selects "EverybodyHasTheBookModel" ⟨"EverybodyHasTheBookModel", "comes", "(II)V"⟩ ⟨"EverybodyHasTheBookModel", "comes", "(II)V"⟩) ∈ lw_all := lw_g (lw_at lw_ms 59 rfl) rfl
theorem qs60 : (Cond.selects "EverybodyHasTheBookModel" ⟨"EverybodyHasTheBookModel", "headsIn", "(I)I"⟩ ⟨"EverybodyHasTheBookModel", "headsIn", "(I)I"⟩) ∈ lw_all := lw_g (lw_at lw_ms 60 rfl) rfl
theorem qs61 : (Cond.selects "EverybodyHasTheBookModel" ⟨"EverybodyHasTheBookModel", "joyBy", "(I)I"⟩ ⟨"EverybodyHasTheBookModel", "joyBy", "(I)I"⟩) ∈ lw_all := lw_g (lw_at lw_ms 61 rfl) rfl
theorem qs62 : (Cond.selects "EverybodyHasTheBookModel" ⟨"EverybodyHasTheBookModel", "joyOf", "(I)I"⟩ ⟨"EverybodyHasTheBookModel", "joyOf", "(I)I"⟩) ∈ lw_all := lw_g (lw_at lw_ms 62 rfl) rfl
theorem qs63 : (Cond.selects "EverybodyHasTheBookModel" ⟨"EverybodyHasTheBookModel", "isByBook", "(I)Z"⟩ ⟨"EverybodyHasTheBookModel", "isByBook", "(I)Z"⟩) ∈ lw_all := lw_g (lw_at lw_ms 63 rfl) rfl
theorem qs64 : (Cond.selects "EverybodyHasTheBookModel" ⟨"EverybodyHasTheBookModel", "truestOf", "()I"⟩ ⟨"EverybodyHasTheBookModel", "truestOf", "()I"⟩) ∈ lw_all := lw_g (lw_at lw_ms 64 rfl) rfl
theorem qs65 : (Cond.selects "EverybodyHasTheBookModel" ⟨"EverybodyHasTheBookModel", "wrongBy", "(I)I"⟩ ⟨"EverybodyHasTheBookModel", "wrongBy", "(I)I"⟩) ∈ lw_all := lw_g (lw_at lw_ms 65 rfl) rfl
theorem qs66 : (Cond.selects "EverybodyHasTheBookModel" ⟨"EverybodyHasTheBookModel", "isChoice", "(I)Z"⟩ ⟨"EverybodyHasTheBookModel", "isChoice", "(I)Z"⟩) ∈ lw_all := lw_g (lw_at lw_ms 66 rfl) rfl
theorem qs67 : (Cond.selects "EverybodyHasTheBookModel" ⟨"EverybodyHasTheBookModel", "readBook", "(I)V"⟩ ⟨"EverybodyHasTheBookModel", "readBook", "(I)V"⟩) ∈ lw_all := lw_g (lw_at lw_ms 67 rfl) rfl
theorem qs68 : (Cond.selects "EverybodyHasTheBookModel" ⟨"EverybodyHasTheBookModel", "joyIn", "(II)I"⟩ ⟨"EverybodyHasTheBookModel", "joyIn", "(II)I"⟩) ∈ lw_all := lw_g (lw_at lw_ms 68 rfl) rfl
theorem qs69 : (Cond.selects "EverybodyHasTheBookModel" ⟨"EverybodyHasTheBookModel", "yearGoesBy", "()V"⟩ ⟨"EverybodyHasTheBookModel", "yearGoesBy", "()V"⟩) ∈ lw_all := lw_g (lw_at lw_ms 69 rfl) rfl
theorem qs70 : (Cond.selects "EverybodyHasTheBookModel" ⟨"EverybodyHasTheBookModel", "bestBook", "(II)I"⟩ ⟨"EverybodyHasTheBookModel", "bestBook", "(II)I"⟩) ∈ lw_all := lw_g (lw_at lw_ms 70 rfl) rfl
theorem qs71 : (Cond.selects "EverybodyHasTheBookModel" ⟨"EverybodyHasTheBookModel", "writtenBy", "(II)I"⟩ ⟨"EverybodyHasTheBookModel", "writtenBy", "(II)I"⟩) ∈ lw_all := lw_g (lw_at lw_ms 71 rfl) rfl
theorem qs72 : (Cond.selects "EverybodyHasTheBookModel" ⟨"EverybodyHasTheBookModel", "findRound", "(I)V"⟩ ⟨"EverybodyHasTheBookModel", "findRound", "(I)V"⟩) ∈ lw_all := lw_g (lw_at lw_ms 72 rfl) rfl
theorem qs73 : (Cond.selects "EverybodyHasTheBookModel" ⟨"EverybodyHasTheBookModel", "ownJoy", "(I)I"⟩ ⟨"EverybodyHasTheBookModel", "ownJoy", "(I)I"⟩) ∈ lw_all := lw_g (lw_at lw_ms 73 rfl) rfl
theorem qs74 : (Cond.selects "EverybodyHasTheBookModel" ⟨"EverybodyHasTheBookModel", "draw", "(I)I"⟩ ⟨"EverybodyHasTheBookModel", "draw", "(I)I"⟩) ∈ lw_all := lw_g (lw_at lw_ms 74 rfl) rfl
