-- ===== PART A: goes FIRST, ahead of the names: the tables' words, and 'selects' of the private methods out of them =====
/-- a private method of a class that the tables say can be made, by its rows of tables_1 -/
def lw_okq (q : MethodName × Nat) : Prop := (q.1.cls ≠ "java/lang/invoke/MethodHandle" ∧ q.1.cls ≠ "java/lang/invoke/VarHandle") ∧ Cond.instantiable q.1.cls q.2 ∈ tables_1 ∧ Cond.privateMethod q.1 ∈ tables_1 ∧ Cond.instanceMethod q.1 ∈ tables_1
set_option maxRecDepth 100000
theorem lw_t1 {w : Cond} (h : w ∈ tables_1_1) : w ∈ tables_1 := List.mem_append_left _ h
theorem lw_t2 {w : Cond} (h : w ∈ tables_1_2) : w ∈ tables_1 := List.mem_append_right _ (List.mem_append_left _ h)
theorem lw_t3 {w : Cond} (h : w ∈ tables_1_3) : w ∈ tables_1 := List.mem_append_right _ (List.mem_append_right _ (List.mem_append_left _ h))
theorem lw_t4 {w : Cond} (h : w ∈ tables_1_4) : w ∈ tables_1 := List.mem_append_right _ (List.mem_append_right _ (List.mem_append_right _ (List.mem_append_left _ h)))
theorem lw_t5 {w : Cond} (h : w ∈ tables_1_5) : w ∈ tables_1 := List.mem_append_right _ (List.mem_append_right _ (List.mem_append_right _ (List.mem_append_right _ (List.mem_append_left _ h))))
theorem lw_t6 {w : Cond} (h : w ∈ tables_1_6) : w ∈ tables_1 := List.mem_append_right _ (List.mem_append_right _ (List.mem_append_right _ (List.mem_append_right _ (List.mem_append_right _ (List.mem_append_left _ h)))))
theorem lw_t7 {w : Cond} (h : w ∈ tables_1_7) : w ∈ tables_1 := List.mem_append_right _ (List.mem_append_right _ (List.mem_append_right _ (List.mem_append_right _ (List.mem_append_right _ (List.mem_append_right _ (List.mem_append_left _ h))))))
theorem lw_t8 {w : Cond} (h : w ∈ tables_1_8) : w ∈ tables_1 := List.mem_append_right _ (List.mem_append_right _ (List.mem_append_right _ (List.mem_append_right _ (List.mem_append_right _ (List.mem_append_right _ (List.mem_append_right _ (List.mem_append_left _ h)))))))
theorem lw_t9 {w : Cond} (h : w ∈ tables_1_9) : w ∈ tables_1 := List.mem_append_right _ (List.mem_append_right _ (List.mem_append_right _ (List.mem_append_right _ (List.mem_append_right _ (List.mem_append_right _ (List.mem_append_right _ (List.mem_append_right _ h)))))))
theorem lw_p0 : lw_okq (⟨"java/lang/Throwable", "fillInStackTrace", "(I)Ljava/lang/Throwable;"⟩, 6) := ⟨⟨by decide +kernel, by decide +kernel⟩, lw_t1 (List.mem_of_getElem? (i := 126) rfl), lw_t1 (List.mem_of_getElem? (i := 124) rfl), lw_t1 (List.mem_of_getElem? (i := 125) rfl)⟩
theorem lw_p1 : lw_okq (⟨"EelPort", "lay", "(I)V"⟩, 14) := ⟨⟨by decide +kernel, by decide +kernel⟩, lw_t1 (List.mem_of_getElem? (i := 46) rfl), lw_t3 (List.mem_of_getElem? (i := 106) rfl), lw_t3 (List.mem_of_getElem? (i := 107) rfl)⟩
theorem lw_p2 : lw_okq (⟨"EelPort$Lit", "eats", "(I)V"⟩, 9) := ⟨⟨by decide +kernel, by decide +kernel⟩, lw_t1 (List.mem_of_getElem? (i := 60) rfl), lw_t3 (List.mem_of_getElem? (i := 126) rfl), lw_t3 (List.mem_of_getElem? (i := 127) rfl)⟩
theorem lw_p3 : lw_okq (⟨"EelPort$Lit", "shines", "(I)V"⟩, 9) := ⟨⟨by decide +kernel, by decide +kernel⟩, lw_t1 (List.mem_of_getElem? (i := 60) rfl), lw_t3 (List.mem_of_getElem? (i := 188) rfl), lw_t3 (List.mem_of_getElem? (i := 189) rfl)⟩
theorem lw_p4 : lw_okq (⟨"EelPort$Reader", "go", "()V"⟩, 11) := ⟨⟨by decide +kernel, by decide +kernel⟩, lw_t4 (List.mem_of_getElem? (i := 5) rfl), lw_t4 (List.mem_of_getElem? (i := 12) rfl), lw_t4 (List.mem_of_getElem? (i := 13) rfl)⟩
theorem lw_p5 : lw_okq (⟨"EelPort$Reader", "byteAt", "(I)I"⟩, 11) := ⟨⟨by decide +kernel, by decide +kernel⟩, lw_t4 (List.mem_of_getElem? (i := 5) rfl), lw_t4 (List.mem_of_getElem? (i := 16) rfl), lw_t4 (List.mem_of_getElem? (i := 17) rfl)⟩
theorem lw_p6 : lw_okq (⟨"EelPort$Reader", "check", "(ZI)V"⟩, 11) := ⟨⟨by decide +kernel, by decide +kernel⟩, lw_t4 (List.mem_of_getElem? (i := 5) rfl), lw_t4 (List.mem_of_getElem? (i := 238) rfl), lw_t4 (List.mem_of_getElem? (i := 239) rfl)⟩
theorem lw_p7 : lw_okq (⟨"EelPort$Reader", "number", "(II)I"⟩, 11) := ⟨⟨by decide +kernel, by decide +kernel⟩, lw_t4 (List.mem_of_getElem? (i := 5) rfl), lw_t5 (List.mem_of_getElem? (i := 25) rfl), lw_t5 (List.mem_of_getElem? (i := 26) rfl)⟩
theorem lw_p8 : lw_okq (⟨"EelPort$Reader", "numberHere", "(II)I"⟩, 11) := ⟨⟨by decide +kernel, by decide +kernel⟩, lw_t4 (List.mem_of_getElem? (i := 5) rfl), lw_t5 (List.mem_of_getElem? (i := 29) rfl), lw_t5 (List.mem_of_getElem? (i := 30) rfl)⟩
theorem lw_p9 : lw_okq (⟨"EelPort$Reader", "among", "(I)I"⟩, 11) := ⟨⟨by decide +kernel, by decide +kernel⟩, lw_t4 (List.mem_of_getElem? (i := 5) rfl), lw_t5 (List.mem_of_getElem? (i := 33) rfl), lw_t5 (List.mem_of_getElem? (i := 34) rfl)⟩
theorem lw_p10 : lw_okq (⟨"EelPort$Reader", "amongHere", "(I)I"⟩, 11) := ⟨⟨by decide +kernel, by decide +kernel⟩, lw_t4 (List.mem_of_getElem? (i := 5) rfl), lw_t5 (List.mem_of_getElem? (i := 37) rfl), lw_t5 (List.mem_of_getElem? (i := 38) rfl)⟩
theorem lw_p11 : lw_okq (⟨"java/util/ArrayList", "add", "(Ljava/lang/Object;[Ljava/lang/Object;I)V"⟩, 3) := ⟨⟨by decide +kernel, by decide +kernel⟩, lw_t1 (List.mem_of_getElem? (i := 72) rfl), lw_t5 (List.mem_of_getElem? (i := 45) rfl), lw_t5 (List.mem_of_getElem? (i := 46) rfl)⟩
theorem lw_p12 : lw_okq (⟨"java/util/ArrayList", "grow", "()[Ljava/lang/Object;"⟩, 3) := ⟨⟨by decide +kernel, by decide +kernel⟩, lw_t1 (List.mem_of_getElem? (i := 72) rfl), lw_t5 (List.mem_of_getElem? (i := 49) rfl), lw_t5 (List.mem_of_getElem? (i := 50) rfl)⟩
theorem lw_p13 : lw_okq (⟨"java/util/ArrayList", "grow", "(I)[Ljava/lang/Object;"⟩, 3) := ⟨⟨by decide +kernel, by decide +kernel⟩, lw_t1 (List.mem_of_getElem? (i := 72) rfl), lw_t5 (List.mem_of_getElem? (i := 53) rfl), lw_t5 (List.mem_of_getElem? (i := 54) rfl)⟩
theorem lw_p14 : lw_okq (⟨"EelPort$Reader", "is", "(Ljava/lang/String;)Z"⟩, 11) := ⟨⟨by decide +kernel, by decide +kernel⟩, lw_t4 (List.mem_of_getElem? (i := 5) rfl), lw_t5 (List.mem_of_getElem? (i := 99) rfl), lw_t5 (List.mem_of_getElem? (i := 100) rfl)⟩
theorem lw_p15 : lw_okq (⟨"EelPort$Reader", "once", "([Z)I"⟩, 11) := ⟨⟨by decide +kernel, by decide +kernel⟩, lw_t4 (List.mem_of_getElem? (i := 5) rfl), lw_t5 (List.mem_of_getElem? (i := 106) rfl), lw_t5 (List.mem_of_getElem? (i := 107) rfl)⟩
def lw_privs_1 : List (MethodName × Nat) := [(⟨"java/lang/Throwable", "fillInStackTrace", "(I)Ljava/lang/Throwable;"⟩, 6), (⟨"EelPort", "lay", "(I)V"⟩, 14), (⟨"EelPort$Lit", "eats", "(I)V"⟩, 9), (⟨"EelPort$Lit", "shines", "(I)V"⟩, 9), (⟨"EelPort$Reader", "go", "()V"⟩, 11), (⟨"EelPort$Reader", "byteAt", "(I)I"⟩, 11), (⟨"EelPort$Reader", "check", "(ZI)V"⟩, 11), (⟨"EelPort$Reader", "number", "(II)I"⟩, 11), (⟨"EelPort$Reader", "numberHere", "(II)I"⟩, 11), (⟨"EelPort$Reader", "among", "(I)I"⟩, 11), (⟨"EelPort$Reader", "amongHere", "(I)I"⟩, 11), (⟨"java/util/ArrayList", "add", "(Ljava/lang/Object;[Ljava/lang/Object;I)V"⟩, 3), (⟨"java/util/ArrayList", "grow", "()[Ljava/lang/Object;"⟩, 3), (⟨"java/util/ArrayList", "grow", "(I)[Ljava/lang/Object;"⟩, 3), (⟨"EelPort$Reader", "is", "(Ljava/lang/String;)Z"⟩, 11), (⟨"EelPort$Reader", "once", "([Z)I"⟩, 11)]
theorem lw_r1 : ∀ q ∈ lw_privs_1, lw_okq q := List.forall_mem_cons.mpr ⟨lw_p0, List.forall_mem_cons.mpr ⟨lw_p1, List.forall_mem_cons.mpr ⟨lw_p2, List.forall_mem_cons.mpr ⟨lw_p3, List.forall_mem_cons.mpr ⟨lw_p4, List.forall_mem_cons.mpr ⟨lw_p5, List.forall_mem_cons.mpr ⟨lw_p6, List.forall_mem_cons.mpr ⟨lw_p7, List.forall_mem_cons.mpr ⟨lw_p8, List.forall_mem_cons.mpr ⟨lw_p9, List.forall_mem_cons.mpr ⟨lw_p10, List.forall_mem_cons.mpr ⟨lw_p11, List.forall_mem_cons.mpr ⟨lw_p12, List.forall_mem_cons.mpr ⟨lw_p13, List.forall_mem_cons.mpr ⟨lw_p14, List.forall_mem_cons.mpr ⟨lw_p15, fun _ h => absurd h List.not_mem_nil⟩⟩⟩⟩⟩⟩⟩⟩⟩⟩⟩⟩⟩⟩⟩⟩
theorem lw_p16 : lw_okq (⟨"EelPort$Reader", "quay", "(LEelPort$Port;)V"⟩, 11) := ⟨⟨by decide +kernel, by decide +kernel⟩, lw_t4 (List.mem_of_getElem? (i := 5) rfl), lw_t5 (List.mem_of_getElem? (i := 113) rfl), lw_t5 (List.mem_of_getElem? (i := 114) rfl)⟩
theorem lw_p17 : lw_okq (⟨"EelPort$Reader", "need", "(Ljava/lang/String;)V"⟩, 11) := ⟨⟨by decide +kernel, by decide +kernel⟩, lw_t4 (List.mem_of_getElem? (i := 5) rfl), lw_t5 (List.mem_of_getElem? (i := 172) rfl), lw_t5 (List.mem_of_getElem? (i := 173) rfl)⟩
theorem lw_p18 : lw_okq (⟨"EelPort", "quayAt", "(I)LEelPort$Quay;"⟩, 14) := ⟨⟨by decide +kernel, by decide +kernel⟩, lw_t1 (List.mem_of_getElem? (i := 46) rfl), lw_t5 (List.mem_of_getElem? (i := 214) rfl), lw_t5 (List.mem_of_getElem? (i := 215) rfl)⟩
theorem lw_p19 : lw_okq (⟨"EelPort", "eelAt", "(I)LEelPort$Eel;"⟩, 14) := ⟨⟨by decide +kernel, by decide +kernel⟩, lw_t1 (List.mem_of_getElem? (i := 46) rfl), lw_t6 (List.mem_of_getElem? (i := 13) rfl), lw_t6 (List.mem_of_getElem? (i := 14) rfl)⟩
theorem lw_p20 : lw_okq (⟨"EelPort", "shipAt", "(I)LEelPort$Ship;"⟩, 14) := ⟨⟨by decide +kernel, by decide +kernel⟩, lw_t1 (List.mem_of_getElem? (i := 46) rfl), lw_t6 (List.mem_of_getElem? (i := 38) rfl), lw_t6 (List.mem_of_getElem? (i := 39) rfl)⟩
theorem lw_p21 : lw_okq (⟨"EelPort", "refuses", "(I)I"⟩, 14) := ⟨⟨by decide +kernel, by decide +kernel⟩, lw_t1 (List.mem_of_getElem? (i := 46) rfl), lw_t6 (List.mem_of_getElem? (i := 68) rfl), lw_t6 (List.mem_of_getElem? (i := 69) rfl)⟩
theorem lw_p22 : lw_okq (⟨"EelPort", "plans", "(LEelPort$Ship;LEelPort$Ship;IIII)V"⟩, 14) := ⟨⟨by decide +kernel, by decide +kernel⟩, lw_t1 (List.mem_of_getElem? (i := 46) rfl), lw_t6 (List.mem_of_getElem? (i := 211) rfl), lw_t6 (List.mem_of_getElem? (i := 212) rfl)⟩
theorem lw_p23 : lw_okq (⟨"EelPort", "keeps", "(IIIIII)Z"⟩, 14) := ⟨⟨by decide +kernel, by decide +kernel⟩, lw_t1 (List.mem_of_getElem? (i := 46) rfl), lw_t7 (List.mem_of_getElem? (i := 4) rfl), lw_t7 (List.mem_of_getElem? (i := 5) rfl)⟩
theorem lw_p24 : lw_okq (⟨"EelPort", "isHis", "(II)Z"⟩, 14) := ⟨⟨by decide +kernel, by decide +kernel⟩, lw_t1 (List.mem_of_getElem? (i := 46) rfl), lw_t7 (List.mem_of_getElem? (i := 19) rfl), lw_t7 (List.mem_of_getElem? (i := 20) rfl)⟩
theorem lw_p25 : lw_okq (⟨"EelPort", "gainOf", "(II)I"⟩, 14) := ⟨⟨by decide +kernel, by decide +kernel⟩, lw_t1 (List.mem_of_getElem? (i := 46) rfl), lw_t7 (List.mem_of_getElem? (i := 23) rfl), lw_t7 (List.mem_of_getElem? (i := 24) rfl)⟩
theorem lw_p26 : lw_okq (⟨"EelPort", "isCase", "(I)Z"⟩, 14) := ⟨⟨by decide +kernel, by decide +kernel⟩, lw_t1 (List.mem_of_getElem? (i := 46) rfl), lw_t7 (List.mem_of_getElem? (i := 41) rfl), lw_t7 (List.mem_of_getElem? (i := 42) rfl)⟩
theorem lw_p27 : lw_okq (⟨"EelPort", "placed", "(II)I"⟩, 14) := ⟨⟨by decide +kernel, by decide +kernel⟩, lw_t1 (List.mem_of_getElem? (i := 46) rfl), lw_t7 (List.mem_of_getElem? (i := 46) rfl), lw_t7 (List.mem_of_getElem? (i := 47) rfl)⟩
theorem lw_p28 : lw_okq (⟨"EelPortModel", "fail", "(I)I"⟩, 74) := ⟨⟨by decide +kernel, by decide +kernel⟩, lw_t7 (List.mem_of_getElem? (i := 58) rfl), lw_t8 (List.mem_of_getElem? (i := 73) rfl), lw_t8 (List.mem_of_getElem? (i := 74) rfl)⟩
theorem lw_p29 : lw_okq (⟨"EelPortModel", "stepOn", "()V"⟩, 74) := ⟨⟨by decide +kernel, by decide +kernel⟩, lw_t7 (List.mem_of_getElem? (i := 58) rfl), lw_t8 (List.mem_of_getElem? (i := 77) rfl), lw_t8 (List.mem_of_getElem? (i := 78) rfl)⟩
theorem lw_p30 : lw_okq (⟨"EelPortModel", "byteAt", "(I)I"⟩, 74) := ⟨⟨by decide +kernel, by decide +kernel⟩, lw_t7 (List.mem_of_getElem? (i := 58) rfl), lw_t8 (List.mem_of_getElem? (i := 81) rfl), lw_t8 (List.mem_of_getElem? (i := 82) rfl)⟩
theorem lw_p31 : lw_okq (⟨"EelPortModel", "readLine", "(Z)Z"⟩, 74) := ⟨⟨by decide +kernel, by decide +kernel⟩, lw_t7 (List.mem_of_getElem? (i := 58) rfl), lw_t8 (List.mem_of_getElem? (i := 92) rfl), lw_t8 (List.mem_of_getElem? (i := 93) rfl)⟩
def lw_privs_2 : List (MethodName × Nat) := [(⟨"EelPort$Reader", "quay", "(LEelPort$Port;)V"⟩, 11), (⟨"EelPort$Reader", "need", "(Ljava/lang/String;)V"⟩, 11), (⟨"EelPort", "quayAt", "(I)LEelPort$Quay;"⟩, 14), (⟨"EelPort", "eelAt", "(I)LEelPort$Eel;"⟩, 14), (⟨"EelPort", "shipAt", "(I)LEelPort$Ship;"⟩, 14), (⟨"EelPort", "refuses", "(I)I"⟩, 14), (⟨"EelPort", "plans", "(LEelPort$Ship;LEelPort$Ship;IIII)V"⟩, 14), (⟨"EelPort", "keeps", "(IIIIII)Z"⟩, 14), (⟨"EelPort", "isHis", "(II)Z"⟩, 14), (⟨"EelPort", "gainOf", "(II)I"⟩, 14), (⟨"EelPort", "isCase", "(I)Z"⟩, 14), (⟨"EelPort", "placed", "(II)I"⟩, 14), (⟨"EelPortModel", "fail", "(I)I"⟩, 74), (⟨"EelPortModel", "stepOn", "()V"⟩, 74), (⟨"EelPortModel", "byteAt", "(I)I"⟩, 74), (⟨"EelPortModel", "readLine", "(Z)Z"⟩, 74)]
theorem lw_r2 : ∀ q ∈ lw_privs_2, lw_okq q := List.forall_mem_cons.mpr ⟨lw_p16, List.forall_mem_cons.mpr ⟨lw_p17, List.forall_mem_cons.mpr ⟨lw_p18, List.forall_mem_cons.mpr ⟨lw_p19, List.forall_mem_cons.mpr ⟨lw_p20, List.forall_mem_cons.mpr ⟨lw_p21, List.forall_mem_cons.mpr ⟨lw_p22, List.forall_mem_cons.mpr ⟨lw_p23, List.forall_mem_cons.mpr ⟨lw_p24, List.forall_mem_cons.mpr ⟨lw_p25, List.forall_mem_cons.mpr ⟨lw_p26, List.forall_mem_cons.mpr ⟨lw_p27, List.forall_mem_cons.mpr ⟨lw_p28, List.forall_mem_cons.mpr ⟨lw_p29, List.forall_mem_cons.mpr ⟨lw_p30, List.forall_mem_cons.mpr ⟨lw_p31, fun _ h => absurd h List.not_mem_nil⟩⟩⟩⟩⟩⟩⟩⟩⟩⟩⟩⟩⟩⟩⟩⟩
theorem lw_p32 : lw_okq (⟨"EelPortModel", "is", "(Ljava/lang/String;)Z"⟩, 74) := ⟨⟨by decide +kernel, by decide +kernel⟩, lw_t7 (List.mem_of_getElem? (i := 58) rfl), lw_t8 (List.mem_of_getElem? (i := 97) rfl), lw_t8 (List.mem_of_getElem? (i := 98) rfl)⟩
theorem lw_p33 : lw_okq (⟨"EelPortModel", "wrong", "(I)V"⟩, 74) := ⟨⟨by decide +kernel, by decide +kernel⟩, lw_t7 (List.mem_of_getElem? (i := 58) rfl), lw_t8 (List.mem_of_getElem? (i := 117) rfl), lw_t8 (List.mem_of_getElem? (i := 118) rfl)⟩
theorem lw_p34 : lw_okq (⟨"EelPortModel", "which", "([Ljava/lang/String;)I"⟩, 74) := ⟨⟨by decide +kernel, by decide +kernel⟩, lw_t7 (List.mem_of_getElem? (i := 58) rfl), lw_t8 (List.mem_of_getElem? (i := 121) rfl), lw_t8 (List.mem_of_getElem? (i := 122) rfl)⟩
theorem lw_p35 : lw_okq (⟨"EelPortModel", "readQuay", "(I)V"⟩, 74) := ⟨⟨by decide +kernel, by decide +kernel⟩, lw_t7 (List.mem_of_getElem? (i := 58) rfl), lw_t8 (List.mem_of_getElem? (i := 125) rfl), lw_t8 (List.mem_of_getElem? (i := 126) rfl)⟩
theorem lw_p36 : lw_okq (⟨"EelPortModel", "open", "(II)Z"⟩, 74) := ⟨⟨by decide +kernel, by decide +kernel⟩, lw_t7 (List.mem_of_getElem? (i := 58) rfl), lw_t8 (List.mem_of_getElem? (i := 129) rfl), lw_t8 (List.mem_of_getElem? (i := 130) rfl)⟩
theorem lw_p37 : lw_okq (⟨"EelPortModel", "readNumber", "(II)I"⟩, 74) := ⟨⟨by decide +kernel, by decide +kernel⟩, lw_t7 (List.mem_of_getElem? (i := 58) rfl), lw_t8 (List.mem_of_getElem? (i := 133) rfl), lw_t8 (List.mem_of_getElem? (i := 134) rfl)⟩
theorem lw_p38 : lw_okq (⟨"EelPortModel", "numberNow", "(II)I"⟩, 74) := ⟨⟨by decide +kernel, by decide +kernel⟩, lw_t7 (List.mem_of_getElem? (i := 58) rfl), lw_t8 (List.mem_of_getElem? (i := 137) rfl), lw_t8 (List.mem_of_getElem? (i := 138) rfl)⟩
theorem lw_p39 : lw_okq (⟨"EelPortModel", "passes", "(Ljava/lang/String;)Z"⟩, 74) := ⟨⟨by decide +kernel, by decide +kernel⟩, lw_t7 (List.mem_of_getElem? (i := 58) rfl), lw_t8 (List.mem_of_getElem? (i := 142) rfl), lw_t8 (List.mem_of_getElem? (i := 143) rfl)⟩
theorem lw_p40 : lw_okq (⟨"EelPortModel", "readEel", "(I)V"⟩, 74) := ⟨⟨by decide +kernel, by decide +kernel⟩, lw_t7 (List.mem_of_getElem? (i := 58) rfl), lw_t8 (List.mem_of_getElem? (i := 146) rfl), lw_t8 (List.mem_of_getElem? (i := 147) rfl)⟩
theorem lw_p41 : lw_okq (⟨"EelPortModel", "readOne", "(I)I"⟩, 74) := ⟨⟨by decide +kernel, by decide +kernel⟩, lw_t7 (List.mem_of_getElem? (i := 58) rfl), lw_t8 (List.mem_of_getElem? (i := 150) rfl), lw_t8 (List.mem_of_getElem? (i := 151) rfl)⟩
theorem lw_p42 : lw_okq (⟨"EelPortModel", "oneNow", "(I)I"⟩, 74) := ⟨⟨by decide +kernel, by decide +kernel⟩, lw_t7 (List.mem_of_getElem? (i := 58) rfl), lw_t8 (List.mem_of_getElem? (i := 154) rfl), lw_t8 (List.mem_of_getElem? (i := 155) rfl)⟩
theorem lw_p43 : lw_okq (⟨"EelPortModel", "readShip", "(I)V"⟩, 74) := ⟨⟨by decide +kernel, by decide +kernel⟩, lw_t7 (List.mem_of_getElem? (i := 58) rfl), lw_t8 (List.mem_of_getElem? (i := 158) rfl), lw_t8 (List.mem_of_getElem? (i := 159) rfl)⟩
theorem lw_p44 : lw_okq (⟨"EelPortModel", "readWay", "()V"⟩, 74) := ⟨⟨by decide +kernel, by decide +kernel⟩, lw_t7 (List.mem_of_getElem? (i := 58) rfl), lw_t8 (List.mem_of_getElem? (i := 163) rfl), lw_t8 (List.mem_of_getElem? (i := 164) rfl)⟩
theorem lw_p45 : lw_okq (⟨"EelPortModel", "readMoon", "()V"⟩, 74) := ⟨⟨by decide +kernel, by decide +kernel⟩, lw_t7 (List.mem_of_getElem? (i := 58) rfl), lw_t8 (List.mem_of_getElem? (i := 168) rfl), lw_t8 (List.mem_of_getElem? (i := 169) rfl)⟩
theorem lw_p46 : lw_okq (⟨"EelPortModel", "readCold", "()V"⟩, 74) := ⟨⟨by decide +kernel, by decide +kernel⟩, lw_t7 (List.mem_of_getElem? (i := 58) rfl), lw_t8 (List.mem_of_getElem? (i := 173) rfl), lw_t8 (List.mem_of_getElem? (i := 174) rfl)⟩
theorem lw_p47 : lw_okq (⟨"EelPortModel", "readHood", "()V"⟩, 74) := ⟨⟨by decide +kernel, by decide +kernel⟩, lw_t7 (List.mem_of_getElem? (i := 58) rfl), lw_t8 (List.mem_of_getElem? (i := 178) rfl), lw_t8 (List.mem_of_getElem? (i := 179) rfl)⟩
def lw_privs_3 : List (MethodName × Nat) := [(⟨"EelPortModel", "is", "(Ljava/lang/String;)Z"⟩, 74), (⟨"EelPortModel", "wrong", "(I)V"⟩, 74), (⟨"EelPortModel", "which", "([Ljava/lang/String;)I"⟩, 74), (⟨"EelPortModel", "readQuay", "(I)V"⟩, 74), (⟨"EelPortModel", "open", "(II)Z"⟩, 74), (⟨"EelPortModel", "readNumber", "(II)I"⟩, 74), (⟨"EelPortModel", "numberNow", "(II)I"⟩, 74), (⟨"EelPortModel", "passes", "(Ljava/lang/String;)Z"⟩, 74), (⟨"EelPortModel", "readEel", "(I)V"⟩, 74), (⟨"EelPortModel", "readOne", "(I)I"⟩, 74), (⟨"EelPortModel", "oneNow", "(I)I"⟩, 74), (⟨"EelPortModel", "readShip", "(I)V"⟩, 74), (⟨"EelPortModel", "readWay", "()V"⟩, 74), (⟨"EelPortModel", "readMoon", "()V"⟩, 74), (⟨"EelPortModel", "readCold", "()V"⟩, 74), (⟨"EelPortModel", "readHood", "()V"⟩, 74)]
theorem lw_r3 : ∀ q ∈ lw_privs_3, lw_okq q := List.forall_mem_cons.mpr ⟨lw_p32, List.forall_mem_cons.mpr ⟨lw_p33, List.forall_mem_cons.mpr ⟨lw_p34, List.forall_mem_cons.mpr ⟨lw_p35, List.forall_mem_cons.mpr ⟨lw_p36, List.forall_mem_cons.mpr ⟨lw_p37, List.forall_mem_cons.mpr ⟨lw_p38, List.forall_mem_cons.mpr ⟨lw_p39, List.forall_mem_cons.mpr ⟨lw_p40, List.forall_mem_cons.mpr ⟨lw_p41, List.forall_mem_cons.mpr ⟨lw_p42, List.forall_mem_cons.mpr ⟨lw_p43, List.forall_mem_cons.mpr ⟨lw_p44, List.forall_mem_cons.mpr ⟨lw_p45, List.forall_mem_cons.mpr ⟨lw_p46, List.forall_mem_cons.mpr ⟨lw_p47, fun _ h => absurd h List.not_mem_nil⟩⟩⟩⟩⟩⟩⟩⟩⟩⟩⟩⟩⟩⟩⟩⟩
theorem lw_p48 : lw_okq (⟨"EelPortModel", "take", "()V"⟩, 74) := ⟨⟨by decide +kernel, by decide +kernel⟩, lw_t7 (List.mem_of_getElem? (i := 58) rfl), lw_t8 (List.mem_of_getElem? (i := 182) rfl), lw_t8 (List.mem_of_getElem? (i := 183) rfl)⟩
theorem lw_p49 : lw_okq (⟨"EelPortModel", "priceOf", "(I)I"⟩, 74) := ⟨⟨by decide +kernel, by decide +kernel⟩, lw_t7 (List.mem_of_getElem? (i := 58) rfl), lw_t8 (List.mem_of_getElem? (i := 200) rfl), lw_t8 (List.mem_of_getElem? (i := 201) rfl)⟩
theorem lw_p50 : lw_okq (⟨"EelPortModel", "isQuay", "(I)Z"⟩, 74) := ⟨⟨by decide +kernel, by decide +kernel⟩, lw_t7 (List.mem_of_getElem? (i := 58) rfl), lw_t8 (List.mem_of_getElem? (i := 208) rfl), lw_t8 (List.mem_of_getElem? (i := 209) rfl)⟩
theorem lw_p51 : lw_okq (⟨"EelPortModel", "isEel", "(I)Z"⟩, 74) := ⟨⟨by decide +kernel, by decide +kernel⟩, lw_t7 (List.mem_of_getElem? (i := 58) rfl), lw_t8 (List.mem_of_getElem? (i := 216) rfl), lw_t8 (List.mem_of_getElem? (i := 217) rfl)⟩
theorem lw_p52 : lw_okq (⟨"EelPortModel", "isShip", "(I)Z"⟩, 74) := ⟨⟨by decide +kernel, by decide +kernel⟩, lw_t7 (List.mem_of_getElem? (i := 58) rfl), lw_t8 (List.mem_of_getElem? (i := 224) rfl), lw_t8 (List.mem_of_getElem? (i := 225) rfl)⟩
theorem lw_p53 : lw_okq (⟨"EelPortModel", "give", "(III)V"⟩, 74) := ⟨⟨by decide +kernel, by decide +kernel⟩, lw_t7 (List.mem_of_getElem? (i := 58) rfl), lw_t8 (List.mem_of_getElem? (i := 235) rfl), lw_t8 (List.mem_of_getElem? (i := 236) rfl)⟩
theorem lw_p54 : lw_okq (⟨"EelPortModel", "tellNight", "()V"⟩, 74) := ⟨⟨by decide +kernel, by decide +kernel⟩, lw_t7 (List.mem_of_getElem? (i := 58) rfl), lw_t9 (List.mem_of_getElem? (i := 11) rfl), lw_t9 (List.mem_of_getElem? (i := 12) rfl)⟩
theorem lw_p55 : lw_okq (⟨"EelPortModel", "tellEel", "(I)V"⟩, 74) := ⟨⟨by decide +kernel, by decide +kernel⟩, lw_t7 (List.mem_of_getElem? (i := 58) rfl), lw_t9 (List.mem_of_getElem? (i := 15) rfl), lw_t9 (List.mem_of_getElem? (i := 16) rfl)⟩
theorem lw_p56 : lw_okq (⟨"EelPortModel", "tellMeals", "(I)V"⟩, 74) := ⟨⟨by decide +kernel, by decide +kernel⟩, lw_t7 (List.mem_of_getElem? (i := 58) rfl), lw_t9 (List.mem_of_getElem? (i := 19) rfl), lw_t9 (List.mem_of_getElem? (i := 20) rfl)⟩
theorem lw_p57 : lw_okq (⟨"EelPortModel", "glowOf", "(II)I"⟩, 74) := ⟨⟨by decide +kernel, by decide +kernel⟩, lw_t7 (List.mem_of_getElem? (i := 58) rfl), lw_t9 (List.mem_of_getElem? (i := 24) rfl), lw_t9 (List.mem_of_getElem? (i := 25) rfl)⟩
theorem lw_p58 : lw_okq (⟨"EelPortModel", "isHooded", "(II)Z"⟩, 74) := ⟨⟨by decide +kernel, by decide +kernel⟩, lw_t7 (List.mem_of_getElem? (i := 58) rfl), lw_t9 (List.mem_of_getElem? (i := 28) rfl), lw_t9 (List.mem_of_getElem? (i := 29) rfl)⟩
theorem lw_p59 : lw_okq (⟨"EelPortModel", "tellLights", "()V"⟩, 74) := ⟨⟨by decide +kernel, by decide +kernel⟩, lw_t7 (List.mem_of_getElem? (i := 58) rfl), lw_t9 (List.mem_of_getElem? (i := 32) rfl), lw_t9 (List.mem_of_getElem? (i := 33) rfl)⟩
theorem lw_p60 : lw_okq (⟨"EelPortModel", "lightOf", "(II)I"⟩, 74) := ⟨⟨by decide +kernel, by decide +kernel⟩, lw_t7 (List.mem_of_getElem? (i := 58) rfl), lw_t9 (List.mem_of_getElem? (i := 36) rfl), lw_t9 (List.mem_of_getElem? (i := 37) rfl)⟩
theorem lw_p61 : lw_okq (⟨"EelPortModel", "shineAt", "(II)I"⟩, 74) := ⟨⟨by decide +kernel, by decide +kernel⟩, lw_t7 (List.mem_of_getElem? (i := 58) rfl), lw_t9 (List.mem_of_getElem? (i := 40) rfl), lw_t9 (List.mem_of_getElem? (i := 41) rfl)⟩
theorem lw_p62 : lw_okq (⟨"EelPortModel", "sail", "(I)V"⟩, 74) := ⟨⟨by decide +kernel, by decide +kernel⟩, lw_t7 (List.mem_of_getElem? (i := 58) rfl), lw_t9 (List.mem_of_getElem? (i := 60) rfl), lw_t9 (List.mem_of_getElem? (i := 61) rfl)⟩
theorem lw_p63 : lw_okq (⟨"EelPortModel", "nextOf", "(III)I"⟩, 74) := ⟨⟨by decide +kernel, by decide +kernel⟩, lw_t7 (List.mem_of_getElem? (i := 58) rfl), lw_t9 (List.mem_of_getElem? (i := 64) rfl), lw_t9 (List.mem_of_getElem? (i := 65) rfl)⟩
def lw_privs_4 : List (MethodName × Nat) := [(⟨"EelPortModel", "take", "()V"⟩, 74), (⟨"EelPortModel", "priceOf", "(I)I"⟩, 74), (⟨"EelPortModel", "isQuay", "(I)Z"⟩, 74), (⟨"EelPortModel", "isEel", "(I)Z"⟩, 74), (⟨"EelPortModel", "isShip", "(I)Z"⟩, 74), (⟨"EelPortModel", "give", "(III)V"⟩, 74), (⟨"EelPortModel", "tellNight", "()V"⟩, 74), (⟨"EelPortModel", "tellEel", "(I)V"⟩, 74), (⟨"EelPortModel", "tellMeals", "(I)V"⟩, 74), (⟨"EelPortModel", "glowOf", "(II)I"⟩, 74), (⟨"EelPortModel", "isHooded", "(II)Z"⟩, 74), (⟨"EelPortModel", "tellLights", "()V"⟩, 74), (⟨"EelPortModel", "lightOf", "(II)I"⟩, 74), (⟨"EelPortModel", "shineAt", "(II)I"⟩, 74), (⟨"EelPortModel", "sail", "(I)V"⟩, 74), (⟨"EelPortModel", "nextOf", "(III)I"⟩, 74)]
theorem lw_r4 : ∀ q ∈ lw_privs_4, lw_okq q := List.forall_mem_cons.mpr ⟨lw_p48, List.forall_mem_cons.mpr ⟨lw_p49, List.forall_mem_cons.mpr ⟨lw_p50, List.forall_mem_cons.mpr ⟨lw_p51, List.forall_mem_cons.mpr ⟨lw_p52, List.forall_mem_cons.mpr ⟨lw_p53, List.forall_mem_cons.mpr ⟨lw_p54, List.forall_mem_cons.mpr ⟨lw_p55, List.forall_mem_cons.mpr ⟨lw_p56, List.forall_mem_cons.mpr ⟨lw_p57, List.forall_mem_cons.mpr ⟨lw_p58, List.forall_mem_cons.mpr ⟨lw_p59, List.forall_mem_cons.mpr ⟨lw_p60, List.forall_mem_cons.mpr ⟨lw_p61, List.forall_mem_cons.mpr ⟨lw_p62, List.forall_mem_cons.mpr ⟨lw_p63, fun _ h => absurd h List.not_mem_nil⟩⟩⟩⟩⟩⟩⟩⟩⟩⟩⟩⟩⟩⟩⟩⟩
theorem lw_p64 : lw_okq (⟨"EelPortModel", "stays", "(I)Z"⟩, 74) := ⟨⟨by decide +kernel, by decide +kernel⟩, lw_t7 (List.mem_of_getElem? (i := 58) rfl), lw_t9 (List.mem_of_getElem? (i := 68) rfl), lw_t9 (List.mem_of_getElem? (i := 69) rfl)⟩
theorem lw_p65 : lw_okq (⟨"EelPortModel", "draw", "(III)I"⟩, 74) := ⟨⟨by decide +kernel, by decide +kernel⟩, lw_t7 (List.mem_of_getElem? (i := 58) rfl), lw_t9 (List.mem_of_getElem? (i := 72) rfl), lw_t9 (List.mem_of_getElem? (i := 73) rfl)⟩
theorem lw_p66 : lw_okq (⟨"EelPortModel", "hungersAt", "(II)I"⟩, 74) := ⟨⟨by decide +kernel, by decide +kernel⟩, lw_t7 (List.mem_of_getElem? (i := 58) rfl), lw_t9 (List.mem_of_getElem? (i := 76) rfl), lw_t9 (List.mem_of_getElem? (i := 77) rfl)⟩
theorem lw_p67 : lw_okq (⟨"EelPortModel", "isSeen", "(III)Z"⟩, 74) := ⟨⟨by decide +kernel, by decide +kernel⟩, lw_t7 (List.mem_of_getElem? (i := 58) rfl), lw_t9 (List.mem_of_getElem? (i := 80) rfl), lw_t9 (List.mem_of_getElem? (i := 81) rfl)⟩
theorem lw_p68 : lw_okq (⟨"EelPortModel", "endOf", "(I)I"⟩, 74) := ⟨⟨by decide +kernel, by decide +kernel⟩, lw_t7 (List.mem_of_getElem? (i := 58) rfl), lw_t9 (List.mem_of_getElem? (i := 88) rfl), lw_t9 (List.mem_of_getElem? (i := 89) rfl)⟩
theorem lw_p69 : lw_okq (⟨"EelPortModel", "planOn", "(IIIII)V"⟩, 74) := ⟨⟨by decide +kernel, by decide +kernel⟩, lw_t7 (List.mem_of_getElem? (i := 58) rfl), lw_t9 (List.mem_of_getElem? (i := 96) rfl), lw_t9 (List.mem_of_getElem? (i := 97) rfl)⟩
theorem lw_p70 : lw_okq (⟨"EelPortModel", "brightOn", "(IIIIII)Z"⟩, 74) := ⟨⟨by decide +kernel, by decide +kernel⟩, lw_t7 (List.mem_of_getElem? (i := 58) rfl), lw_t9 (List.mem_of_getElem? (i := 118) rfl), lw_t9 (List.mem_of_getElem? (i := 119) rfl)⟩
theorem lw_p71 : lw_okq (⟨"EelPortModel", "isBright", "(IIII)Z"⟩, 74) := ⟨⟨by decide +kernel, by decide +kernel⟩, lw_t7 (List.mem_of_getElem? (i := 58) rfl), lw_t9 (List.mem_of_getElem? (i := 122) rfl), lw_t9 (List.mem_of_getElem? (i := 123) rfl)⟩
theorem lw_p72 : lw_okq (⟨"EelPortModel", "tellGains", "(I)V"⟩, 74) := ⟨⟨by decide +kernel, by decide +kernel⟩, lw_t7 (List.mem_of_getElem? (i := 58) rfl), lw_t9 (List.mem_of_getElem? (i := 130) rfl), lw_t9 (List.mem_of_getElem? (i := 131) rfl)⟩
theorem lw_p73 : lw_okq (⟨"EelPortModel", "mayFeed", "(II)Z"⟩, 74) := ⟨⟨by decide +kernel, by decide +kernel⟩, lw_t7 (List.mem_of_getElem? (i := 58) rfl), lw_t9 (List.mem_of_getElem? (i := 134) rfl), lw_t9 (List.mem_of_getElem? (i := 135) rfl)⟩
theorem lw_p74 : lw_okq (⟨"EelPortModel", "restsAt", "(II)Z"⟩, 74) := ⟨⟨by decide +kernel, by decide +kernel⟩, lw_t7 (List.mem_of_getElem? (i := 58) rfl), lw_t9 (List.mem_of_getElem? (i := 138) rfl), lw_t9 (List.mem_of_getElem? (i := 139) rfl)⟩
theorem lw_p75 : lw_okq (⟨"EelPortModel", "isSpent", "()Z"⟩, 74) := ⟨⟨by decide +kernel, by decide +kernel⟩, lw_t7 (List.mem_of_getElem? (i := 58) rfl), lw_t9 (List.mem_of_getElem? (i := 154) rfl), lw_t9 (List.mem_of_getElem? (i := 155) rfl)⟩
theorem lw_p76 : lw_okq (⟨"EelPortModel", "placeOn", "(I)V"⟩, 74) := ⟨⟨by decide +kernel, by decide +kernel⟩, lw_t7 (List.mem_of_getElem? (i := 58) rfl), lw_t9 (List.mem_of_getElem? (i := 158) rfl), lw_t9 (List.mem_of_getElem? (i := 159) rfl)⟩
def lw_privs_5 : List (MethodName × Nat) := [(⟨"EelPortModel", "stays", "(I)Z"⟩, 74), (⟨"EelPortModel", "draw", "(III)I"⟩, 74), (⟨"EelPortModel", "hungersAt", "(II)I"⟩, 74), (⟨"EelPortModel", "isSeen", "(III)Z"⟩, 74), (⟨"EelPortModel", "endOf", "(I)I"⟩, 74), (⟨"EelPortModel", "planOn", "(IIIII)V"⟩, 74), (⟨"EelPortModel", "brightOn", "(IIIIII)Z"⟩, 74), (⟨"EelPortModel", "isBright", "(IIII)Z"⟩, 74), (⟨"EelPortModel", "tellGains", "(I)V"⟩, 74), (⟨"EelPortModel", "mayFeed", "(II)Z"⟩, 74), (⟨"EelPortModel", "restsAt", "(II)Z"⟩, 74), (⟨"EelPortModel", "isSpent", "()Z"⟩, 74), (⟨"EelPortModel", "placeOn", "(I)V"⟩, 74)]
theorem lw_r5 : ∀ q ∈ lw_privs_5, lw_okq q := List.forall_mem_cons.mpr ⟨lw_p64, List.forall_mem_cons.mpr ⟨lw_p65, List.forall_mem_cons.mpr ⟨lw_p66, List.forall_mem_cons.mpr ⟨lw_p67, List.forall_mem_cons.mpr ⟨lw_p68, List.forall_mem_cons.mpr ⟨lw_p69, List.forall_mem_cons.mpr ⟨lw_p70, List.forall_mem_cons.mpr ⟨lw_p71, List.forall_mem_cons.mpr ⟨lw_p72, List.forall_mem_cons.mpr ⟨lw_p73, List.forall_mem_cons.mpr ⟨lw_p74, List.forall_mem_cons.mpr ⟨lw_p75, List.forall_mem_cons.mpr ⟨lw_p76, fun _ h => absurd h List.not_mem_nil⟩⟩⟩⟩⟩⟩⟩⟩⟩⟩⟩⟩⟩
def lw_privs : List (MethodName × Nat) := lw_privs_1 ++ (lw_privs_2 ++ (lw_privs_3 ++ (lw_privs_4 ++ (lw_privs_5))))
def lw_tbl : List Cond := k2_sels lw_privs ++ tables_1
theorem lw_privs_ok : ∀ q ∈ lw_privs, lw_okq q := by
  show ∀ q ∈ lw_privs_1 ++ (lw_privs_2 ++ (lw_privs_3 ++ (lw_privs_4 ++ (lw_privs_5)))), lw_okq q
  exact List.forall_mem_append.mpr ⟨lw_r1, List.forall_mem_append.mpr ⟨lw_r2, List.forall_mem_append.mpr ⟨lw_r3, List.forall_mem_append.mpr ⟨lw_r4, lw_r5⟩⟩⟩⟩
-- ===== ONE list of words for every method: the tables' words that hold all through a run =====
def lw_all : List Cond := lw_tbl.filter goodWord
/-- a word of the tables by its place: claim/WORDS.tsv -/
theorem lw_w {w : Cond} (i : Nat) (h : lw_tbl[i]? = some w) (g : goodWord w = true) : w ∈ lw_all := List.mem_filter.mpr ⟨List.mem_of_getElem? h, g⟩
theorem lw_all_tbl {w : Cond} (h : w ∈ lw_all) : w ∈ lw_tbl := (List.mem_filter.mp h).1
theorem lw_self : GoodIn lw_all lw_all := fun w h => ⟨h, good_of_word (List.mem_filter.mp h).2⟩
/-- a class's field words, by their places -/
theorem lw_in (ws : List Cond) (ps : List Nat) (hp : ws = ps.filterMap (fun i => lw_tbl[i]?)) (hg : ws.all goodWord = true) : ∀ w ∈ ws, w ∈ lw_all := by
  intro w h
  have h1 := List.all_eq_true.mp hg w h
  rw [hp] at h
  obtain ⟨i, -, hi⟩ := List.mem_filterMap.mp h
  exact lw_w i hi h1
/-- the words of a contract for the method y with code b, L locals, answer r -/
abbrev ws_ (y : MethodName) (b : ByteArray) (L : Nat) (r : Option FieldType) : List Cond := Cond.code y b L r :: lw_all
theorem lw_meth {y : MethodName} {b : ByteArray} {L : Nat} {r : Option FieldType} (h : Cond.code y b L r ∈ lw_all) : GoodIn lw_all (ws_ y b L r) := by
  intro w hw
  rcases List.mem_cons.mp hw with e | e
  · rw [e]
    exact lw_self _ h
  · exact lw_self _ e
theorem lw_app {a c : List Cond} (ha : ∀ w ∈ a, w ∈ lw_all) (hc : GoodIn lw_all c) : GoodIn lw_all (a ++ c) := by
  intro w hw
  rcases List.mem_append.mp hw with e | e
  · exact lw_self w (ha w e)
  · exact hc w e
/-- what a call through an object asks: cwV n hts (lw_V ..) -/
theorem lw_V {own : String} {idx : Nat} {C : String} {y : MethodName} {b : ByteArray} {L : Nat} {r : Option FieldType} (h1 : Cond.methodLink own idx y ∈ lw_all) (h2 : Cond.instanceMethod y ∈ lw_all) (h3 : Cond.selects C y y ∈ lw_all) (h4 : Cond.initialized C ∈ lw_all) (h5 : Cond.code y b L r ∈ lw_all) : GoodIn lw_all (wsV own idx C y (ws_ y b L r)) := by
  refine lw_app ?_ (lw_meth h5)
  intro w hw
  simp only [List.mem_cons, List.not_mem_nil, or_false] at hw
  rcases hw with e | e | e | e
  · rw [e]; exact h1
  · rw [e]; exact h2
  · rw [e]; exact h3
  · rw [e]; exact h4
/-- what a static call asks: va_cwS n hts (lw_S ..) -/
theorem lw_S {own : String} {idx : Nat} {y : MethodName} {b : ByteArray} {L : Nat} {r : Option FieldType} (h1 : Cond.methodLink own idx y ∈ lw_all) (h2 : Cond.static y ∈ lw_all) (h3 : Cond.initialized y.cls ∈ lw_all) (h4 : Cond.code y b L r ∈ lw_all) : GoodIn lw_all (va_wsS own idx y (ws_ y b L r)) := by
  refine lw_app ?_ (lw_meth h4)
  intro w hw
  simp only [List.mem_cons, List.not_mem_nil, or_false] at hw
  rcases hw with e | e | e
  · rw [e]; exact h1
  · rw [e]; exact h2
  · rw [e]; exact h3
/-- the words of a contract for a method WITH HANDLERS (hh: its table) -/
abbrev wsW_ (y : MethodName) (b : ByteArray) (L : Nat) (r : Option FieldType) (hh : List (Nat × Nat × Nat × Nat)) : List Cond := Cond.codeWith y b L r hh :: lw_all
theorem lw_methW {y : MethodName} {b : ByteArray} {L : Nat} {r : Option FieldType} {hh : List (Nat × Nat × Nat × Nat)} (h : Cond.codeWith y b L r hh ∈ lw_all) : GoodIn lw_all (wsW_ y b L r hh) := by
  intro w hw
  rcases List.mem_cons.mp hw with e | e
  · rw [e]
    exact lw_self _ h
  · exact lw_self _ e
/-- any list of words by their places (lw_in), good -/
theorem lw_good {ws : List Cond} (h : ∀ w ∈ ws, w ∈ lw_all) : GoodIn lw_all ws := fun w hw => lw_self w (h w hw)
/-- what a call of a method with handlers asks: vx_cwVW n hts (lw_VW ..), vx_cwSW n hts (lw_SW ..) -/
theorem lw_VW {own : String} {idx : Nat} {C : String} {y : MethodName} {b : ByteArray} {L : Nat} {r : Option FieldType} {hh : List (Nat × Nat × Nat × Nat)} (h1 : Cond.methodLink own idx y ∈ lw_all) (h2 : Cond.instanceMethod y ∈ lw_all) (h3 : Cond.selects C y y ∈ lw_all) (h4 : Cond.initialized C ∈ lw_all) (h5 : Cond.codeWith y b L r hh ∈ lw_all) : GoodIn lw_all (wsV own idx C y (wsW_ y b L r hh)) := by
  refine lw_app ?_ (lw_methW h5)
  intro w hw
  simp only [List.mem_cons, List.not_mem_nil, or_false] at hw
  rcases hw with e | e | e | e
  · rw [e]; exact h1
  · rw [e]; exact h2
  · rw [e]; exact h3
  · rw [e]; exact h4
theorem lw_SW {own : String} {idx : Nat} {y : MethodName} {b : ByteArray} {L : Nat} {r : Option FieldType} {hh : List (Nat × Nat × Nat × Nat)} (h1 : Cond.methodLink own idx y ∈ lw_all) (h2 : Cond.static y ∈ lw_all) (h3 : Cond.initialized y.cls ∈ lw_all) (h4 : Cond.codeWith y b L r hh ∈ lw_all) : GoodIn lw_all (va_wsS own idx y (wsW_ y b L r hh)) := by
  refine lw_app ?_ (lw_methW h4)
  intro w hw
  simp only [List.mem_cons, List.not_mem_nil, or_false] at hw
  rcases hw with e | e | e
  · rw [e]; exact h1
  · rw [e]; exact h2
  · rw [e]; exact h3
/-- a word by its place in its run of the tables -/
theorem lw_at {r : List Cond} (hr : ∀ w ∈ r, w ∈ lw_tbl) {w : Cond} (i : Nat) (h : r[i]? = some w) : w ∈ lw_tbl := hr w (List.mem_of_getElem? h)
theorem lw_g {w : Cond} (h : w ∈ lw_tbl) (g : goodWord w = true) : w ∈ lw_all := List.mem_filter.mpr ⟨h, g⟩
theorem lw_ms : ∀ w ∈ k2_sels lw_privs, w ∈ lw_tbl := fun w h => show w ∈ k2_sels lw_privs ++ tables_1 from List.mem_append_left _ h
theorem lw_m1 : ∀ w ∈ tables_1_1, w ∈ lw_tbl := fun w h => show w ∈ k2_sels lw_privs ++ tables_1 from List.mem_append_right (k2_sels lw_privs) (show w ∈ tables_1 from List.mem_append_left _ h)
theorem lw_m2 : ∀ w ∈ tables_1_2, w ∈ lw_tbl := fun w h => show w ∈ k2_sels lw_privs ++ tables_1 from List.mem_append_right (k2_sels lw_privs) (show w ∈ tables_1 from List.mem_append_right _ (List.mem_append_left _ h))
theorem lw_m3 : ∀ w ∈ tables_1_3, w ∈ lw_tbl := fun w h => show w ∈ k2_sels lw_privs ++ tables_1 from List.mem_append_right (k2_sels lw_privs) (show w ∈ tables_1 from List.mem_append_right _ (List.mem_append_right _ (List.mem_append_left _ h)))
theorem lw_m4 : ∀ w ∈ tables_1_4, w ∈ lw_tbl := fun w h => show w ∈ k2_sels lw_privs ++ tables_1 from List.mem_append_right (k2_sels lw_privs) (show w ∈ tables_1 from List.mem_append_right _ (List.mem_append_right _ (List.mem_append_right _ (List.mem_append_left _ h))))
theorem lw_m5 : ∀ w ∈ tables_1_5, w ∈ lw_tbl := fun w h => show w ∈ k2_sels lw_privs ++ tables_1 from List.mem_append_right (k2_sels lw_privs) (show w ∈ tables_1 from List.mem_append_right _ (List.mem_append_right _ (List.mem_append_right _ (List.mem_append_right _ (List.mem_append_left _ h)))))
theorem lw_m6 : ∀ w ∈ tables_1_6, w ∈ lw_tbl := fun w h => show w ∈ k2_sels lw_privs ++ tables_1 from List.mem_append_right (k2_sels lw_privs) (show w ∈ tables_1 from List.mem_append_right _ (List.mem_append_right _ (List.mem_append_right _ (List.mem_append_right _ (List.mem_append_right _ (List.mem_append_left _ h))))))
theorem lw_m7 : ∀ w ∈ tables_1_7, w ∈ lw_tbl := fun w h => show w ∈ k2_sels lw_privs ++ tables_1 from List.mem_append_right (k2_sels lw_privs) (show w ∈ tables_1 from List.mem_append_right _ (List.mem_append_right _ (List.mem_append_right _ (List.mem_append_right _ (List.mem_append_right _ (List.mem_append_right _ (List.mem_append_left _ h)))))))
theorem lw_m8 : ∀ w ∈ tables_1_8, w ∈ lw_tbl := fun w h => show w ∈ k2_sels lw_privs ++ tables_1 from List.mem_append_right (k2_sels lw_privs) (show w ∈ tables_1 from List.mem_append_right _ (List.mem_append_right _ (List.mem_append_right _ (List.mem_append_right _ (List.mem_append_right _ (List.mem_append_right _ (List.mem_append_right _ (List.mem_append_left _ h))))))))
theorem lw_m9 : ∀ w ∈ tables_1_9, w ∈ lw_tbl := fun w h => show w ∈ k2_sels lw_privs ++ tables_1 from List.mem_append_right (k2_sels lw_privs) (show w ∈ tables_1 from List.mem_append_right _ (List.mem_append_right _ (List.mem_append_right _ (List.mem_append_right _ (List.mem_append_right _ (List.mem_append_right _ (List.mem_append_right _ (List.mem_append_right _ h))))))))
theorem qs0 : (Cond.selects "java/lang/Throwable" ⟨"java/lang/Throwable", "fillInStackTrace", "(I)Ljava/lang/Throwable;"⟩ ⟨"java/lang/Throwable", "fillInStackTrace", "(I)Ljava/lang/Throwable;"⟩) ∈ lw_all := lw_g (lw_at lw_ms 0 rfl) rfl
theorem qs1 : (Cond.selects "EelPort" ⟨"EelPort", "lay", "(I)V"⟩ ⟨"EelPort", "lay", "(I)V"⟩) ∈ lw_all := lw_g (lw_at lw_ms 1 rfl) rfl
theorem qs2 : (Cond.selects "EelPort$Lit" ⟨"EelPort$Lit", "eats", "(I)V"⟩ ⟨"EelPort$Lit", "eats", "(I)V"⟩) ∈ lw_all := lw_g (lw_at lw_ms 2 rfl) rfl
theorem qs3 : (Cond.selects "EelPort$Lit" ⟨"EelPort$Lit", "shines", "(I)V"⟩ ⟨"EelPort$Lit", "shines", "(I)V"⟩) ∈ lw_all := lw_g (lw_at lw_ms 3 rfl) rfl
theorem qs4 : (Cond.selects "EelPort$Reader" ⟨"EelPort$Reader", "go", "()V"⟩ ⟨"EelPort$Reader", "go", "()V"⟩) ∈ lw_all := lw_g (lw_at lw_ms 4 rfl) rfl
theorem qs5 : (Cond.selects "EelPort$Reader" ⟨"EelPort$Reader", "byteAt", "(I)I"⟩ ⟨"EelPort$Reader", "byteAt", "(I)I"⟩) ∈ lw_all := lw_g (lw_at lw_ms 5 rfl) rfl
theorem qs6 : (Cond.selects "EelPort$Reader" ⟨"EelPort$Reader", "check", "(ZI)V"⟩ ⟨"EelPort$Reader", "check", "(ZI)V"⟩) ∈ lw_all := lw_g (lw_at lw_ms 6 rfl) rfl
theorem qs7 : (Cond.selects "EelPort$Reader" ⟨"EelPort$Reader", "number", "(II)I"⟩ ⟨"EelPort$Reader", "number", "(II)I"⟩) ∈ lw_all := lw_g (lw_at lw_ms 7 rfl) rfl
theorem qs8 : (Cond.selects "EelPort$Reader" ⟨"EelPort$Reader", "numberHere", "(II)I"⟩ ⟨"EelPort$Reader", "numberHere", "(II)I"⟩) ∈ lw_all := lw_g (lw_at lw_ms 8 rfl) rfl
theorem qs9 : (Cond.selects "EelPort$Reader" ⟨"EelPort$Reader", "among", "(I)I"⟩ ⟨"EelPort$Reader", "among", "(I)I"⟩) ∈ lw_all := lw_g (lw_at lw_ms 9 rfl) rfl
theorem qs10 : (Cond.selects "EelPort$Reader" ⟨"EelPort$Reader", "amongHere", "(I)I"⟩ ⟨"EelPort$Reader", "amongHere", "(I)I"⟩) ∈ lw_all := lw_g (lw_at lw_ms 10 rfl) rfl
theorem qs11 : (Cond.selects "java/util/ArrayList" ⟨"java/util/ArrayList", "add", "(Ljava/lang/Object;[Ljava/lang/Object;I)V"⟩ ⟨"java/util/ArrayList", "add", "(Ljava/lang/Object;[Ljava/lang/Object;I)V"⟩) ∈ lw_all := lw_g (lw_at lw_ms 11 rfl) rfl
theorem qs12 : (Cond.selects "java/util/ArrayList" ⟨"java/util/ArrayList", "grow", "()[Ljava/lang/Object;"⟩ ⟨"java/util/ArrayList", "grow", "()[Ljava/lang/Object;"⟩) ∈ lw_all := lw_g (lw_at lw_ms 12 rfl) rfl
theorem qs13 : (Cond.selects "java/util/ArrayList" ⟨"java/util/ArrayList", "grow", "(I)[Ljava/lang/Object;"⟩ ⟨"java/util/ArrayList", "grow", "(I)[Ljava/lang/Object;"⟩) ∈ lw_all := lw_g (lw_at lw_ms 13 rfl) rfl
theorem qs14 : (Cond.selects "EelPort$Reader" ⟨"EelPort$Reader", "is", "(Ljava/lang/String;)Z"⟩ ⟨"EelPort$Reader", "is", "(Ljava/lang/String;)Z"⟩) ∈ lw_all := lw_g (lw_at lw_ms 14 rfl) rfl
theorem qs15 : (Cond.selects "EelPort$Reader" ⟨"EelPort$Reader", "once", "([Z)I"⟩ ⟨"EelPort$Reader", "once", "([Z)I"⟩) ∈ lw_all := lw_g (lw_at lw_ms 15 rfl) rfl
theorem qs16 : (Cond.selects "EelPort$Reader" ⟨"EelPort$Reader", "quay", "(LEelPort$Port;)V"⟩ ⟨"EelPort$Reader", "quay", "(LEelPort$Port;)V"⟩) ∈ lw_all := lw_g (lw_at lw_ms 16 rfl) rfl
theorem qs17 : (Cond.selects "EelPort$Reader" ⟨"EelPort$Reader", "need", "(Ljava/lang/String;)V"⟩ ⟨"EelPort$Reader", "need", "(Ljava/lang/String;)V"⟩) ∈ lw_all := lw_g (lw_at lw_ms 17 rfl) rfl
theorem qs18 : (Cond.selects "EelPort" ⟨"EelPort", "quayAt", "(I)LEelPort$Quay;"⟩ ⟨"EelPort", "quayAt", "(I)LEelPort$Quay;"⟩) ∈ lw_all := lw_g (lw_at lw_ms 18 rfl) rfl
theorem qs19 : (Cond.selects "EelPort" ⟨"EelPort", "eelAt", "(I)LEelPort$Eel;"⟩ ⟨"EelPort", "eelAt", "(I)LEelPort$Eel;"⟩) ∈ lw_all := lw_g (lw_at lw_ms 19 rfl) rfl
theorem qs20 : (Cond.selects "EelPort" ⟨"EelPort", "shipAt", "(I)LEelPort$Ship;"⟩ ⟨"EelPort", "shipAt", "(I)LEelPort$Ship;"⟩) ∈ lw_all := lw_g (lw_at lw_ms 20 rfl) rfl
theorem qs21 : (Cond.selects "EelPort" ⟨"EelPort", "refuses", "(I)I"⟩ ⟨"EelPort", "refuses", "(I)I"⟩) ∈ lw_all := lw_g (lw_at lw_ms 21 rfl) rfl
theorem qs22 : (Cond.selects "EelPort" ⟨"EelPort", "plans", "(LEelPort$Ship;LEelPort$Ship;IIII)V"⟩ ⟨"EelPort", "plans", "(LEelPort$Ship;LEelPort$Ship;IIII)V"⟩) ∈ lw_all := lw_g (lw_at lw_ms 22 rfl) rfl
theorem qs23 : (Cond.selects "EelPort" ⟨"EelPort", "keeps", "(IIIIII)Z"⟩ ⟨"EelPort", "keeps", "(IIIIII)Z"⟩) ∈ lw_all := lw_g (lw_at lw_ms 23 rfl) rfl
theorem qs24 : (Cond.selects "EelPort" ⟨"EelPort", "isHis", "(II)Z"⟩ ⟨"EelPort", "isHis", "(II)Z"⟩) ∈ lw_all := lw_g (lw_at lw_ms 24 rfl) rfl
theorem qs25 : (Cond.selects "EelPort" ⟨"EelPort", "gainOf", "(II)I"⟩ ⟨"EelPort", "gainOf", "(II)I"⟩) ∈ lw_all := lw_g (lw_at lw_ms 25 rfl) rfl
theorem qs26 : (Cond.selects "EelPort" ⟨"EelPort", "isCase", "(I)Z"⟩ ⟨"EelPort", "isCase", "(I)Z"⟩) ∈ lw_all := lw_g (lw_at lw_ms 26 rfl) rfl
theorem qs27 : (Cond.selects "EelPort" ⟨"EelPort", "placed", "(II)I"⟩ ⟨"EelPort", "placed", "(II)I"⟩) ∈ lw_all := lw_g (lw_at lw_ms 27 rfl) rfl
theorem qs28 : (Cond.selects "EelPortModel" ⟨"EelPortModel", "fail", "(I)I"⟩ ⟨"EelPortModel", "fail", "(I)I"⟩) ∈ lw_all := lw_g (lw_at lw_ms 28 rfl) rfl
theorem qs29 : (Cond.selects "EelPortModel" ⟨"EelPortModel", "stepOn", "()V"⟩ ⟨"EelPortModel", "stepOn", "()V"⟩) ∈ lw_all := lw_g (lw_at lw_ms 29 rfl) rfl
theorem qs30 : (Cond.selects "EelPortModel" ⟨"EelPortModel", "byteAt", "(I)I"⟩ ⟨"EelPortModel", "byteAt", "(I)I"⟩) ∈ lw_all := lw_g (lw_at lw_ms 30 rfl) rfl
theorem qs31 : (Cond.selects "EelPortModel" ⟨"EelPortModel", "readLine", "(Z)Z"⟩ ⟨"EelPortModel", "readLine", "(Z)Z"⟩) ∈ lw_all := lw_g (lw_at lw_ms 31 rfl) rfl
theorem qs32 : (Cond.selects "EelPortModel" ⟨"EelPortModel", "is", "(Ljava/lang/String;)Z"⟩ ⟨"EelPortModel", "is", "(Ljava/lang/String;)Z"⟩) ∈ lw_all := lw_g (lw_at lw_ms 32 rfl) rfl
theorem qs33 : (Cond.selects "EelPortModel" ⟨"EelPortModel", "wrong", "(I)V"⟩ ⟨"EelPortModel", "wrong", "(I)V"⟩) ∈ lw_all := lw_g (lw_at lw_ms 33 rfl) rfl
theorem qs34 : (Cond.selects "EelPortModel" ⟨"EelPortModel", "which", "([Ljava/lang/String;)I"⟩ ⟨"EelPortModel", "which", "([Ljava/lang/String;)I"⟩) ∈ lw_all := lw_g (lw_at lw_ms 34 rfl) rfl
theorem qs35 : (Cond.selects "EelPortModel" ⟨"EelPortModel", "readQuay", "(I)V"⟩ ⟨"EelPortModel", "readQuay", "(I)V"⟩) ∈ lw_all := lw_g (lw_at lw_ms 35 rfl) rfl
theorem qs36 : (Cond.selects "EelPortModel" ⟨"EelPortModel", "open", "(II)Z"⟩ ⟨"EelPortModel", "open", "(II)Z"⟩) ∈ lw_all := lw_g (lw_at lw_ms 36 rfl) rfl
theorem qs37 : (Cond.selects "EelPortModel" ⟨"EelPortModel", "readNumber", "(II)I"⟩ ⟨"EelPortModel", "readNumber", "(II)I"⟩) ∈ lw_all := lw_g (lw_at lw_ms 37 rfl) rfl
theorem qs38 : (Cond.selects "EelPortModel" ⟨"EelPortModel", "numberNow", "(II)I"⟩ ⟨"EelPortModel", "numberNow", "(II)I"⟩) ∈ lw_all := lw_g (lw_at lw_ms 38 rfl) rfl
theorem qs39 : (Cond.selects "EelPortModel" ⟨"EelPortModel", "passes", "(Ljava/lang/String;)Z"⟩ ⟨"EelPortModel", "passes", "(Ljava/lang/String;)Z"⟩) ∈ lw_all := lw_g (lw_at lw_ms 39 rfl) rfl
theorem qs40 : (Cond.selects "EelPortModel" ⟨"EelPortModel", "readEel", "(I)V"⟩ ⟨"EelPortModel", "readEel", "(I)V"⟩) ∈ lw_all := lw_g (lw_at lw_ms 40 rfl) rfl
theorem qs41 : (Cond.selects "EelPortModel" ⟨"EelPortModel", "readOne", "(I)I"⟩ ⟨"EelPortModel", "readOne", "(I)I"⟩) ∈ lw_all := lw_g (lw_at lw_ms 41 rfl) rfl
theorem qs42 : (Cond.selects "EelPortModel" ⟨"EelPortModel", "oneNow", "(I)I"⟩ ⟨"EelPortModel", "oneNow", "(I)I"⟩) ∈ lw_all := lw_g (lw_at lw_ms 42 rfl) rfl
theorem qs43 : (Cond.selects "EelPortModel" ⟨"EelPortModel", "readShip", "(I)V"⟩ ⟨"EelPortModel", "readShip", "(I)V"⟩) ∈ lw_all := lw_g (lw_at lw_ms 43 rfl) rfl
theorem qs44 : (Cond.selects "EelPortModel" ⟨"EelPortModel", "readWay", "()V"⟩ ⟨"EelPortModel", "readWay", "()V"⟩) ∈ lw_all := lw_g (lw_at lw_ms 44 rfl) rfl
theorem qs45 : (Cond.selects "EelPortModel" ⟨"EelPortModel", "readMoon", "()V"⟩ ⟨"EelPortModel", "readMoon", "()V"⟩) ∈ lw_all := lw_g (lw_at lw_ms 45 rfl) rfl
theorem qs46 : (Cond.selects "EelPortModel" ⟨"EelPortModel", "readCold", "()V"⟩ ⟨"EelPortModel", "readCold", "()V"⟩) ∈ lw_all := lw_g (lw_at lw_ms 46 rfl) rfl
theorem qs47 : (Cond.selects "EelPortModel" ⟨"EelPortModel", "readHood", "()V"⟩ ⟨"EelPortModel", "readHood", "()V"⟩) ∈ lw_all := lw_g (lw_at lw_ms 47 rfl) rfl
theorem qs48 : (Cond.selects "EelPortModel" ⟨"EelPortModel", "take", "()V"⟩ ⟨"EelPortModel", "take", "()V"⟩) ∈ lw_all := lw_g (lw_at lw_ms 48 rfl) rfl
theorem qs49 : (Cond.selects "EelPortModel" ⟨"EelPortModel", "priceOf", "(I)I"⟩ ⟨"EelPortModel", "priceOf", "(I)I"⟩) ∈ lw_all := lw_g (lw_at lw_ms 49 rfl) rfl
theorem qs50 : (Cond.selects "EelPortModel" ⟨"EelPortModel", "isQuay", "(I)Z"⟩ ⟨"EelPortModel", "isQuay", "(I)Z"⟩) ∈ lw_all := lw_g (lw_at lw_ms 50 rfl) rfl
theorem qs51 : (Cond.selects "EelPortModel" ⟨"EelPortModel", "isEel", "(I)Z"⟩ ⟨"EelPortModel", "isEel", "(I)Z"⟩) ∈ lw_all := lw_g (lw_at lw_ms 51 rfl) rfl
theorem qs52 : (Cond.selects "EelPortModel" ⟨"EelPortModel", "isShip", "(I)Z"⟩ ⟨"EelPortModel", "isShip", "(I)Z"⟩) ∈ lw_all := lw_g (lw_at lw_ms 52 rfl) rfl
theorem qs53 : (Cond.selects "EelPortModel" ⟨"EelPortModel", "give", "(III)V"⟩ ⟨"EelPortModel", "give", "(III)V"⟩) ∈ lw_all := lw_g (lw_at lw_ms 53 rfl) rfl
theorem qs54 : (Cond.selects "EelPortModel" ⟨"EelPortModel", "tellNight", "()V"⟩ ⟨"EelPortModel", "tellNight", "()V"⟩) ∈ lw_all := lw_g (lw_at lw_ms 54 rfl) rfl
theorem qs55 : (Cond.selects "EelPortModel" ⟨"EelPortModel", "tellEel", "(I)V"⟩ ⟨"EelPortModel", "tellEel", "(I)V"⟩) ∈ lw_all := lw_g (lw_at lw_ms 55 rfl) rfl
theorem qs56 : (Cond.selects "EelPortModel" ⟨"EelPortModel", "tellMeals", "(I)V"⟩ ⟨"EelPortModel", "tellMeals", "(I)V"⟩) ∈ lw_all := lw_g (lw_at lw_ms 56 rfl) rfl
theorem qs57 : (Cond.selects "EelPortModel" ⟨"EelPortModel", "glowOf", "(II)I"⟩ ⟨"EelPortModel", "glowOf", "(II)I"⟩) ∈ lw_all := lw_g (lw_at lw_ms 57 rfl) rfl
theorem qs58 : (Cond.selects "EelPortModel" ⟨"EelPortModel", "isHooded", "(II)Z"⟩ ⟨"EelPortModel", "isHooded", "(II)Z"⟩) ∈ lw_all := lw_g (lw_at lw_ms 58 rfl) rfl
theorem qs59 : (Cond.selects "EelPortModel" ⟨"EelPortModel", "tellLights", "()V"⟩ ⟨"EelPortModel", "tellLights", "()V"⟩) ∈ lw_all := lw_g (lw_at lw_ms 59 rfl) rfl
theorem qs60 : (Cond.selects "EelPortModel" ⟨"EelPortModel", "lightOf", "(II)I"⟩ ⟨"EelPortModel", "lightOf", "(II)I"⟩) ∈ lw_all := lw_g (lw_at lw_ms 60 rfl) rfl
theorem qs61 : (Cond.selects "EelPortModel" ⟨"EelPortModel", "shineAt", "(II)I"⟩ ⟨"EelPortModel", "shineAt", "(II)I"⟩) ∈ lw_all := lw_g (lw_at lw_ms 61 rfl) rfl
theorem qs62 : (Cond.selects "EelPortModel" ⟨"EelPortModel", "sail", "(I)V"⟩ ⟨"EelPortModel", "sail", "(I)V"⟩) ∈ lw_all := lw_g (lw_at lw_ms 62 rfl) rfl
theorem qs63 : (Cond.selects "EelPortModel" ⟨"EelPortModel", "nextOf", "(III)I"⟩ ⟨"EelPortModel", "nextOf", "(III)I"⟩) ∈ lw_all := lw_g (lw_at lw_ms 63 rfl) rfl
theorem qs64 : (Cond.selects "EelPortModel" ⟨"EelPortModel", "stays", "(I)Z"⟩ ⟨"EelPortModel", "stays", "(I)Z"⟩) ∈ lw_all := lw_g (lw_at lw_ms 64 rfl) rfl
theorem qs65 : (Cond.selects "EelPortModel" ⟨"EelPortModel", "draw", "(III)I"⟩ ⟨"EelPortModel", "draw", "(III)I"⟩) ∈ lw_all := lw_g (lw_at lw_ms 65 rfl) rfl
theorem qs66 : (Cond.selects "EelPortModel" ⟨"EelPortModel", "hungersAt", "(II)I"⟩ ⟨"EelPortModel", "hungersAt", "(II)I"⟩) ∈ lw_all := lw_g (lw_at lw_ms 66 rfl) rfl
theorem qs67 : (Cond.selects "EelPortModel" ⟨"EelPortModel", "isSeen", "(III)Z"⟩ ⟨"EelPortModel", "isSeen", "(III)Z"⟩) ∈ lw_all := lw_g (lw_at lw_ms 67 rfl) rfl
theorem qs68 : (Cond.selects "EelPortModel" ⟨"EelPortModel", "endOf", "(I)I"⟩ ⟨"EelPortModel", "endOf", "(I)I"⟩) ∈ lw_all := lw_g (lw_at lw_ms 68 rfl) rfl
theorem qs69 : (Cond.selects "EelPortModel" ⟨"EelPortModel", "planOn", "(IIIII)V"⟩ ⟨"EelPortModel", "planOn", "(IIIII)V"⟩) ∈ lw_all := lw_g (lw_at lw_ms 69 rfl) rfl
theorem qs70 : (Cond.selects "EelPortModel" ⟨"EelPortModel", "brightOn", "(IIIIII)Z"⟩ ⟨"EelPortModel", "brightOn", "(IIIIII)Z"⟩) ∈ lw_all := lw_g (lw_at lw_ms 70 rfl) rfl
theorem qs71 : (Cond.selects "EelPortModel" ⟨"EelPortModel", "isBright", "(IIII)Z"⟩ ⟨"EelPortModel", "isBright", "(IIII)Z"⟩) ∈ lw_all := lw_g (lw_at lw_ms 71 rfl) rfl
theorem qs72 : (Cond.selects "EelPortModel" ⟨"EelPortModel", "tellGains", "(I)V"⟩ ⟨"EelPortModel", "tellGains", "(I)V"⟩) ∈ lw_all := lw_g (lw_at lw_ms 72 rfl) rfl
theorem qs73 : (Cond.selects "EelPortModel" ⟨"EelPortModel", "mayFeed", "(II)Z"⟩ ⟨"EelPortModel", "mayFeed", "(II)Z"⟩) ∈ lw_all := lw_g (lw_at lw_ms 73 rfl) rfl
theorem qs74 : (Cond.selects "EelPortModel" ⟨"EelPortModel", "restsAt", "(II)Z"⟩ ⟨"EelPortModel", "restsAt", "(II)Z"⟩) ∈ lw_all := lw_g (lw_at lw_ms 74 rfl) rfl
theorem qs75 : (Cond.selects "EelPortModel" ⟨"EelPortModel", "isSpent", "()Z"⟩ ⟨"EelPortModel", "isSpent", "()Z"⟩) ∈ lw_all := lw_g (lw_at lw_ms 75 rfl) rfl
theorem qs76 : (Cond.selects "EelPortModel" ⟨"EelPortModel", "placeOn", "(I)V"⟩ ⟨"EelPortModel", "placeOn", "(I)V"⟩) ∈ lw_all := lw_g (lw_at lw_ms 76 rfl) rfl
