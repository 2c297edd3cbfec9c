-- ===== PART A: goes FIRST, ahead of the names: the tables' words, and 'selects' of the private methods out of them =====
/-- a private method of a class that the tables say can be made, by its rows of tables_1 -/
def lw_okq (q : MethodName × Nat) : Prop := (q.1.cls ≠ "java/lang/invoke/MethodHandle" ∧ q.1.cls ≠ "java/lang/invoke/VarHandle") ∧ Cond.instantiable q.1.cls q.2 ∈ tables_1 ∧ Cond.privateMethod q.1 ∈ tables_1 ∧ Cond.instanceMethod q.1 ∈ tables_1
set_option maxRecDepth 100000
theorem lw_t1 {w : Cond} (h : w ∈ tables_1_1) : w ∈ tables_1 := List.mem_append_left _ h
theorem lw_t2 {w : Cond} (h : w ∈ tables_1_2) : w ∈ tables_1 := List.mem_append_right _ (List.mem_append_left _ h)
theorem lw_t3 {w : Cond} (h : w ∈ tables_1_3) : w ∈ tables_1 := List.mem_append_right _ (List.mem_append_right _ (List.mem_append_left _ h))
theorem lw_t4 {w : Cond} (h : w ∈ tables_1_4) : w ∈ tables_1 := List.mem_append_right _ (List.mem_append_right _ (List.mem_append_right _ (List.mem_append_left _ h)))
theorem lw_t5 {w : Cond} (h : w ∈ tables_1_5) : w ∈ tables_1 := List.mem_append_right _ (List.mem_append_right _ (List.mem_append_right _ (List.mem_append_right _ (List.mem_append_left _ h))))
theorem lw_t6 {w : Cond} (h : w ∈ tables_1_6) : w ∈ tables_1 := List.mem_append_right _ (List.mem_append_right _ (List.mem_append_right _ (List.mem_append_right _ (List.mem_append_right _ h))))
theorem lw_p0 : lw_okq (⟨"java/lang/Throwable", "fillInStackTrace", "(I)Ljava/lang/Throwable;"⟩, 6) := ⟨⟨by decide +kernel, by decide +kernel⟩, lw_t1 (List.mem_of_getElem? (i := 89) rfl), lw_t1 (List.mem_of_getElem? (i := 87) rfl), lw_t1 (List.mem_of_getElem? (i := 88) rfl)⟩
theorem lw_p1 : lw_okq (⟨"CommaTables", "four", "(I)V"⟩, 11) := ⟨⟨by decide +kernel, by decide +kernel⟩, lw_t1 (List.mem_of_getElem? (i := 39) rfl), lw_t2 (List.mem_of_getElem? (i := 34) rfl), lw_t2 (List.mem_of_getElem? (i := 35) rfl)⟩
theorem lw_p2 : lw_okq (⟨"CommaTables", "used", "()I"⟩, 11) := ⟨⟨by decide +kernel, by decide +kernel⟩, lw_t1 (List.mem_of_getElem? (i := 39) rfl), lw_t2 (List.mem_of_getElem? (i := 47) rfl), lw_t2 (List.mem_of_getElem? (i := 48) rfl)⟩
theorem lw_p3 : lw_okq (⟨"CommaTables$Tables", "line", "(Z)V"⟩, 15) := ⟨⟨by decide +kernel, by decide +kernel⟩, lw_t1 (List.mem_of_getElem? (i := 127) rfl), lw_t2 (List.mem_of_getElem? (i := 55) rfl), lw_t2 (List.mem_of_getElem? (i := 56) rfl)⟩
theorem lw_p4 : lw_okq (⟨"CommaTables$Tables", "wrong", "(I)Ljava/lang/IllegalStateException;"⟩, 15) := ⟨⟨by decide +kernel, by decide +kernel⟩, lw_t1 (List.mem_of_getElem? (i := 127) rfl), lw_t2 (List.mem_of_getElem? (i := 59) rfl), lw_t2 (List.mem_of_getElem? (i := 60) rfl)⟩
theorem lw_p5 : lw_okq (⟨"CommaTables$Tables", "cell", "(ZI)V"⟩, 15) := ⟨⟨by decide +kernel, by decide +kernel⟩, lw_t1 (List.mem_of_getElem? (i := 127) rfl), lw_t2 (List.mem_of_getElem? (i := 67) rfl), lw_t2 (List.mem_of_getElem? (i := 68) rfl)⟩
theorem lw_p6 : lw_okq (⟨"CommaTables$Tables", "look", "()I"⟩, 15) := ⟨⟨by decide +kernel, by decide +kernel⟩, lw_t1 (List.mem_of_getElem? (i := 127) rfl), lw_t2 (List.mem_of_getElem? (i := 71) rfl), lw_t2 (List.mem_of_getElem? (i := 72) rfl)⟩
theorem lw_p7 : lw_okq (⟨"CommaTables$Tables", "quoted", "()V"⟩, 15) := ⟨⟨by decide +kernel, by decide +kernel⟩, lw_t1 (List.mem_of_getElem? (i := 127) rfl), lw_t2 (List.mem_of_getElem? (i := 75) rfl), lw_t2 (List.mem_of_getElem? (i := 76) rfl)⟩
theorem lw_p8 : lw_okq (⟨"CommaTables$Tables", "mean", "()V"⟩, 15) := ⟨⟨by decide +kernel, by decide +kernel⟩, lw_t1 (List.mem_of_getElem? (i := 127) rfl), lw_t2 (List.mem_of_getElem? (i := 79) rfl), lw_t2 (List.mem_of_getElem? (i := 80) rfl)⟩
theorem lw_p9 : lw_okq (⟨"CommaTables$Tables", "isSame", "(II)Z"⟩, 15) := ⟨⟨by decide +kernel, by decide +kernel⟩, lw_t1 (List.mem_of_getElem? (i := 127) rfl), lw_t2 (List.mem_of_getElem? (i := 83) rfl), lw_t2 (List.mem_of_getElem? (i := 84) rfl)⟩
theorem lw_p10 : lw_okq (⟨"CommaTables$Tables", "length", "(I)I"⟩, 15) := ⟨⟨by decide +kernel, by decide +kernel⟩, lw_t1 (List.mem_of_getElem? (i := 127) rfl), lw_t2 (List.mem_of_getElem? (i := 87) rfl), lw_t2 (List.mem_of_getElem? (i := 88) rfl)⟩
theorem lw_p11 : lw_okq (⟨"CommaTables$Tables", "make", "(I)I"⟩, 15) := ⟨⟨by decide +kernel, by decide +kernel⟩, lw_t1 (List.mem_of_getElem? (i := 127) rfl), lw_t2 (List.mem_of_getElem? (i := 91) rfl), lw_t2 (List.mem_of_getElem? (i := 92) rfl)⟩
theorem lw_p12 : lw_okq (⟨"CommaTables$Tables", "finish", "(LCommaTables$Table;)I"⟩, 15) := ⟨⟨by decide +kernel, by decide +kernel⟩, lw_t1 (List.mem_of_getElem? (i := 127) rfl), lw_t2 (List.mem_of_getElem? (i := 146) rfl), lw_t2 (List.mem_of_getElem? (i := 147) rfl)⟩
theorem lw_p13 : lw_okq (⟨"CommaTables$Tables", "laneOf", "(LCommaTables$Table;I)I"⟩, 15) := ⟨⟨by decide +kernel, by decide +kernel⟩, lw_t1 (List.mem_of_getElem? (i := 127) rfl), lw_t2 (List.mem_of_getElem? (i := 150) rfl), lw_t2 (List.mem_of_getElem? (i := 151) rfl)⟩
theorem lw_p14 : lw_okq (⟨"CommaTables$Tables", "takesAll", "(ILCommaTables$Table;I)Z"⟩, 15) := ⟨⟨by decide +kernel, by decide +kernel⟩, lw_t1 (List.mem_of_getElem? (i := 127) rfl), lw_t2 (List.mem_of_getElem? (i := 158) rfl), lw_t2 (List.mem_of_getElem? (i := 159) rfl)⟩
theorem lw_p15 : lw_okq (⟨"CommaTables$Tables", "takes", "(ILCommaTables$Table;I)Z"⟩, 15) := ⟨⟨by decide +kernel, by decide +kernel⟩, lw_t1 (List.mem_of_getElem? (i := 127) rfl), lw_t2 (List.mem_of_getElem? (i := 162) rfl), lw_t2 (List.mem_of_getElem? (i := 163) rfl)⟩
def lw_privs_1 : List (MethodName × Nat) := [(⟨"java/lang/Throwable", "fillInStackTrace", "(I)Ljava/lang/Throwable;"⟩, 6), (⟨"CommaTables", "four", "(I)V"⟩, 11), (⟨"CommaTables", "used", "()I"⟩, 11), (⟨"CommaTables$Tables", "line", "(Z)V"⟩, 15), (⟨"CommaTables$Tables", "wrong", "(I)Ljava/lang/IllegalStateException;"⟩, 15), (⟨"CommaTables$Tables", "cell", "(ZI)V"⟩, 15), (⟨"CommaTables$Tables", "look", "()I"⟩, 15), (⟨"CommaTables$Tables", "quoted", "()V"⟩, 15), (⟨"CommaTables$Tables", "mean", "()V"⟩, 15), (⟨"CommaTables$Tables", "isSame", "(II)Z"⟩, 15), (⟨"CommaTables$Tables", "length", "(I)I"⟩, 15), (⟨"CommaTables$Tables", "make", "(I)I"⟩, 15), (⟨"CommaTables$Tables", "finish", "(LCommaTables$Table;)I"⟩, 15), (⟨"CommaTables$Tables", "laneOf", "(LCommaTables$Table;I)I"⟩, 15), (⟨"CommaTables$Tables", "takesAll", "(ILCommaTables$Table;I)Z"⟩, 15), (⟨"CommaTables$Tables", "takes", "(ILCommaTables$Table;I)Z"⟩, 15)]
theorem lw_r1 : ∀ q ∈ lw_privs_1, lw_okq q := List.forall_mem_cons.mpr ⟨lw_p0, List.forall_mem_cons.mpr ⟨lw_p1, List.forall_mem_cons.mpr ⟨lw_p2, List.forall_mem_cons.mpr ⟨lw_p3, List.forall_mem_cons.mpr ⟨lw_p4, List.forall_mem_cons.mpr ⟨lw_p5, List.forall_mem_cons.mpr ⟨lw_p6, List.forall_mem_cons.mpr ⟨lw_p7, List.forall_mem_cons.mpr ⟨lw_p8, List.forall_mem_cons.mpr ⟨lw_p9, List.forall_mem_cons.mpr ⟨lw_p10, List.forall_mem_cons.mpr ⟨lw_p11, List.forall_mem_cons.mpr ⟨lw_p12, List.forall_mem_cons.mpr ⟨lw_p13, List.forall_mem_cons.mpr ⟨lw_p14, List.forall_mem_cons.mpr ⟨lw_p15, fun _ h => absurd h List.not_mem_nil⟩⟩⟩⟩⟩⟩⟩⟩⟩⟩⟩⟩⟩⟩⟩⟩
theorem lw_p16 : lw_okq (⟨"CommaTables$Tables", "laneOfCell", "(LCommaTables$Table;I)I"⟩, 15) := ⟨⟨by decide +kernel, by decide +kernel⟩, lw_t1 (List.mem_of_getElem? (i := 127) rfl), lw_t2 (List.mem_of_getElem? (i := 166) rfl), lw_t2 (List.mem_of_getElem? (i := 167) rfl)⟩
theorem lw_p17 : lw_okq (⟨"CommaTables$Tables", "isWord", "(IILjava/lang/String;)Z"⟩, 15) := ⟨⟨by decide +kernel, by decide +kernel⟩, lw_t1 (List.mem_of_getElem? (i := 127) rfl), lw_t2 (List.mem_of_getElem? (i := 179) rfl), lw_t2 (List.mem_of_getElem? (i := 180) rfl)⟩
theorem lw_p18 : lw_okq (⟨"CommaTables$Tables", "wholeLane", "(IIZ)I"⟩, 15) := ⟨⟨by decide +kernel, by decide +kernel⟩, lw_t1 (List.mem_of_getElem? (i := 127) rfl), lw_t2 (List.mem_of_getElem? (i := 235) rfl), lw_t2 (List.mem_of_getElem? (i := 236) rfl)⟩
theorem lw_p19 : lw_okq (⟨"CommaTables$Tables", "value", "(LCommaTables$Table;II)J"⟩, 15) := ⟨⟨by decide +kernel, by decide +kernel⟩, lw_t1 (List.mem_of_getElem? (i := 127) rfl), lw_t3 (List.mem_of_getElem? (i := 43) rfl), lw_t3 (List.mem_of_getElem? (i := 44) rfl)⟩
theorem lw_p20 : lw_okq (⟨"CommaTables$Tables", "before", "(LCommaTables$Table;II)J"⟩, 15) := ⟨⟨by decide +kernel, by decide +kernel⟩, lw_t1 (List.mem_of_getElem? (i := 127) rfl), lw_t3 (List.mem_of_getElem? (i := 58) rfl), lw_t3 (List.mem_of_getElem? (i := 59) rfl)⟩
theorem lw_p21 : lw_okq (⟨"CommaTables$Orders", "join", "(III)V"⟩, 5) := ⟨⟨by decide +kernel, by decide +kernel⟩, lw_t1 (List.mem_of_getElem? (i := 150) rfl), lw_t3 (List.mem_of_getElem? (i := 78) rfl), lw_t3 (List.mem_of_getElem? (i := 79) rfl)⟩
theorem lw_p22 : lw_okq (⟨"CommaTables$Orders", "isBefore", "(II)Z"⟩, 5) := ⟨⟨by decide +kernel, by decide +kernel⟩, lw_t1 (List.mem_of_getElem? (i := 150) rfl), lw_t3 (List.mem_of_getElem? (i := 82) rfl), lw_t3 (List.mem_of_getElem? (i := 83) rfl)⟩
theorem lw_p23 : lw_okq (⟨"CommaTables$Tables", "needsMarks", "(II)Z"⟩, 15) := ⟨⟨by decide +kernel, by decide +kernel⟩, lw_t1 (List.mem_of_getElem? (i := 127) rfl), lw_t3 (List.mem_of_getElem? (i := 155) rfl), lw_t3 (List.mem_of_getElem? (i := 156) rfl)⟩
theorem lw_p24 : lw_okq (⟨"CommaTables$Tables", "say", "(LCommaTables$Out;IIZ)Z"⟩, 15) := ⟨⟨by decide +kernel, by decide +kernel⟩, lw_t1 (List.mem_of_getElem? (i := 127) rfl), lw_t3 (List.mem_of_getElem? (i := 159) rfl), lw_t3 (List.mem_of_getElem? (i := 160) rfl)⟩
theorem lw_p25 : lw_okq (⟨"CommaTables$Tables", "isMarked", "(LCommaTables$Table;II)Z"⟩, 15) := ⟨⟨by decide +kernel, by decide +kernel⟩, lw_t1 (List.mem_of_getElem? (i := 127) rfl), lw_t3 (List.mem_of_getElem? (i := 163) rfl), lw_t3 (List.mem_of_getElem? (i := 164) rfl)⟩
theorem lw_p26 : lw_okq (⟨"CommaTablesModel", "word", "(I)V"⟩, 12) := ⟨⟨by decide +kernel, by decide +kernel⟩, lw_t3 (List.mem_of_getElem? (i := 171) rfl), lw_t4 (List.mem_of_getElem? (i := 7) rfl), lw_t4 (List.mem_of_getElem? (i := 8) rfl)⟩
theorem lw_p27 : lw_okq (⟨"CommaTablesModel", "used", "()I"⟩, 12) := ⟨⟨by decide +kernel, by decide +kernel⟩, lw_t3 (List.mem_of_getElem? (i := 171) rfl), lw_t4 (List.mem_of_getElem? (i := 24) rfl), lw_t4 (List.mem_of_getElem? (i := 25) rfl)⟩
theorem lw_p28 : lw_okq (⟨"CommaTablesModel$TableReader", "names", "()V"⟩, 7) := ⟨⟨by decide +kernel, by decide +kernel⟩, lw_t4 (List.mem_of_getElem? (i := 28) rfl), lw_t4 (List.mem_of_getElem? (i := 80) rfl), lw_t4 (List.mem_of_getElem? (i := 81) rfl)⟩
theorem lw_p29 : lw_okq (⟨"CommaTablesModel$TableReader", "wrong", "(I)Ljava/lang/IllegalStateException;"⟩, 7) := ⟨⟨by decide +kernel, by decide +kernel⟩, lw_t4 (List.mem_of_getElem? (i := 28) rfl), lw_t4 (List.mem_of_getElem? (i := 88) rfl), lw_t4 (List.mem_of_getElem? (i := 89) rfl)⟩
theorem lw_p30 : lw_okq (⟨"CommaTablesModel$TableReader", "word", "()Ljava/lang/String;"⟩, 7) := ⟨⟨by decide +kernel, by decide +kernel⟩, lw_t4 (List.mem_of_getElem? (i := 28) rfl), lw_t4 (List.mem_of_getElem? (i := 98) rfl), lw_t4 (List.mem_of_getElem? (i := 99) rfl)⟩
theorem lw_p31 : lw_okq (⟨"CommaTablesModel$TableReader", "is", "(I)Z"⟩, 7) := ⟨⟨by decide +kernel, by decide +kernel⟩, lw_t4 (List.mem_of_getElem? (i := 28) rfl), lw_t4 (List.mem_of_getElem? (i := 132) rfl), lw_t4 (List.mem_of_getElem? (i := 133) rfl)⟩
def lw_privs_2 : List (MethodName × Nat) := [(⟨"CommaTables$Tables", "laneOfCell", "(LCommaTables$Table;I)I"⟩, 15), (⟨"CommaTables$Tables", "isWord", "(IILjava/lang/String;)Z"⟩, 15), (⟨"CommaTables$Tables", "wholeLane", "(IIZ)I"⟩, 15), (⟨"CommaTables$Tables", "value", "(LCommaTables$Table;II)J"⟩, 15), (⟨"CommaTables$Tables", "before", "(LCommaTables$Table;II)J"⟩, 15), (⟨"CommaTables$Orders", "join", "(III)V"⟩, 5), (⟨"CommaTables$Orders", "isBefore", "(II)Z"⟩, 5), (⟨"CommaTables$Tables", "needsMarks", "(II)Z"⟩, 15), (⟨"CommaTables$Tables", "say", "(LCommaTables$Out;IIZ)Z"⟩, 15), (⟨"CommaTables$Tables", "isMarked", "(LCommaTables$Table;II)Z"⟩, 15), (⟨"CommaTablesModel", "word", "(I)V"⟩, 12), (⟨"CommaTablesModel", "used", "()I"⟩, 12), (⟨"CommaTablesModel$TableReader", "names", "()V"⟩, 7), (⟨"CommaTablesModel$TableReader", "wrong", "(I)Ljava/lang/IllegalStateException;"⟩, 7), (⟨"CommaTablesModel$TableReader", "word", "()Ljava/lang/String;"⟩, 7), (⟨"CommaTablesModel$TableReader", "is", "(I)Z"⟩, 7)]
theorem lw_r2 : ∀ q ∈ lw_privs_2, lw_okq q := List.forall_mem_cons.mpr ⟨lw_p16, List.forall_mem_cons.mpr ⟨lw_p17, List.forall_mem_cons.mpr ⟨lw_p18, List.forall_mem_cons.mpr ⟨lw_p19, List.forall_mem_cons.mpr ⟨lw_p20, List.forall_mem_cons.mpr ⟨lw_p21, List.forall_mem_cons.mpr ⟨lw_p22, List.forall_mem_cons.mpr ⟨lw_p23, List.forall_mem_cons.mpr ⟨lw_p24, List.forall_mem_cons.mpr ⟨lw_p25, List.forall_mem_cons.mpr ⟨lw_p26, List.forall_mem_cons.mpr ⟨lw_p27, List.forall_mem_cons.mpr ⟨lw_p28, List.forall_mem_cons.mpr ⟨lw_p29, List.forall_mem_cons.mpr ⟨lw_p30, List.forall_mem_cons.mpr ⟨lw_p31, fun _ h => absurd h List.not_mem_nil⟩⟩⟩⟩⟩⟩⟩⟩⟩⟩⟩⟩⟩⟩⟩⟩
theorem lw_p32 : lw_okq (⟨"CommaTablesModel$TableReader", "mustEnd", "()V"⟩, 7) := ⟨⟨by decide +kernel, by decide +kernel⟩, lw_t4 (List.mem_of_getElem? (i := 28) rfl), lw_t5 (List.mem_of_getElem? (i := 26) rfl), lw_t5 (List.mem_of_getElem? (i := 27) rfl)⟩
theorem lw_p33 : lw_okq (⟨"java/util/ArrayList", "add", "(Ljava/lang/Object;[Ljava/lang/Object;I)V"⟩, 3) := ⟨⟨by decide +kernel, by decide +kernel⟩, lw_t4 (List.mem_of_getElem? (i := 40) rfl), lw_t5 (List.mem_of_getElem? (i := 60) rfl), lw_t5 (List.mem_of_getElem? (i := 61) rfl)⟩
theorem lw_p34 : lw_okq (⟨"java/util/ArrayList", "grow", "()[Ljava/lang/Object;"⟩, 3) := ⟨⟨by decide +kernel, by decide +kernel⟩, lw_t4 (List.mem_of_getElem? (i := 40) rfl), lw_t5 (List.mem_of_getElem? (i := 64) rfl), lw_t5 (List.mem_of_getElem? (i := 65) rfl)⟩
theorem lw_p35 : lw_okq (⟨"java/util/ArrayList", "grow", "(I)[Ljava/lang/Object;"⟩, 3) := ⟨⟨by decide +kernel, by decide +kernel⟩, lw_t4 (List.mem_of_getElem? (i := 40) rfl), lw_t5 (List.mem_of_getElem? (i := 68) rfl), lw_t5 (List.mem_of_getElem? (i := 69) rfl)⟩
theorem lw_p36 : lw_okq (⟨"CommaTablesModel$TableReader", "line", "()V"⟩, 7) := ⟨⟨by decide +kernel, by decide +kernel⟩, lw_t4 (List.mem_of_getElem? (i := 28) rfl), lw_t5 (List.mem_of_getElem? (i := 105) rfl), lw_t5 (List.mem_of_getElem? (i := 106) rfl)⟩
theorem lw_p37 : lw_okq (⟨"CommaTablesModel", "tabled", "(LCommaTablesModel$Table;I)I"⟩, 12) := ⟨⟨by decide +kernel, by decide +kernel⟩, lw_t3 (List.mem_of_getElem? (i := 171) rfl), lw_t5 (List.mem_of_getElem? (i := 148) rfl), lw_t5 (List.mem_of_getElem? (i := 149) rfl)⟩
theorem lw_p38 : lw_okq (⟨"CommaTablesModel", "isTable", "(I)Z"⟩, 12) := ⟨⟨by decide +kernel, by decide +kernel⟩, lw_t3 (List.mem_of_getElem? (i := 171) rfl), lw_t5 (List.mem_of_getElem? (i := 201) rfl), lw_t5 (List.mem_of_getElem? (i := 202) rfl)⟩
theorem lw_p39 : lw_okq (⟨"CommaTablesModel", "isColumn", "(II)Z"⟩, 12) := ⟨⟨by decide +kernel, by decide +kernel⟩, lw_t3 (List.mem_of_getElem? (i := 171) rfl), lw_t5 (List.mem_of_getElem? (i := 219) rfl), lw_t5 (List.mem_of_getElem? (i := 220) rfl)⟩
theorem lw_p40 : lw_okq (⟨"CommaTablesModel", "isCell", "(III)Z"⟩, 12) := ⟨⟨by decide +kernel, by decide +kernel⟩, lw_t3 (List.mem_of_getElem? (i := 171) rfl), lw_t5 (List.mem_of_getElem? (i := 227) rfl), lw_t5 (List.mem_of_getElem? (i := 228) rfl)⟩
theorem lw_p41 : lw_okq (⟨"CommaTablesModel", "writeWord", "(Ljava/lang/String;Z)V"⟩, 12) := ⟨⟨by decide +kernel, by decide +kernel⟩, lw_t3 (List.mem_of_getElem? (i := 171) rfl), lw_t6 (List.mem_of_getElem? (i := 80) rfl), lw_t6 (List.mem_of_getElem? (i := 81) rfl)⟩
theorem lw_p42 : lw_okq (⟨"CommaTablesModel", "told", "()I"⟩, 12) := ⟨⟨by decide +kernel, by decide +kernel⟩, lw_t3 (List.mem_of_getElem? (i := 171) rfl), lw_t6 (List.mem_of_getElem? (i := 88) rfl), lw_t6 (List.mem_of_getElem? (i := 89) rfl)⟩
def lw_privs_3 : List (MethodName × Nat) := [(⟨"CommaTablesModel$TableReader", "mustEnd", "()V"⟩, 7), (⟨"java/util/ArrayList", "add", "(Ljava/lang/Object;[Ljava/lang/Object;I)V"⟩, 3), (⟨"java/util/ArrayList", "grow", "()[Ljava/lang/Object;"⟩, 3), (⟨"java/util/ArrayList", "grow", "(I)[Ljava/lang/Object;"⟩, 3), (⟨"CommaTablesModel$TableReader", "line", "()V"⟩, 7), (⟨"CommaTablesModel", "tabled", "(LCommaTablesModel$Table;I)I"⟩, 12), (⟨"CommaTablesModel", "isTable", "(I)Z"⟩, 12), (⟨"CommaTablesModel", "isColumn", "(II)Z"⟩, 12), (⟨"CommaTablesModel", "isCell", "(III)Z"⟩, 12), (⟨"CommaTablesModel", "writeWord", "(Ljava/lang/String;Z)V"⟩, 12), (⟨"CommaTablesModel", "told", "()I"⟩, 12)]
theorem lw_r3 : ∀ q ∈ lw_privs_3, lw_okq q := List.forall_mem_cons.mpr ⟨lw_p32, List.forall_mem_cons.mpr ⟨lw_p33, List.forall_mem_cons.mpr ⟨lw_p34, List.forall_mem_cons.mpr ⟨lw_p35, List.forall_mem_cons.mpr ⟨lw_p36, List.forall_mem_cons.mpr ⟨lw_p37, List.forall_mem_cons.mpr ⟨lw_p38, List.forall_mem_cons.mpr ⟨lw_p39, List.forall_mem_cons.mpr ⟨lw_p40, List.forall_mem_cons.mpr ⟨lw_p41, List.forall_mem_cons.mpr ⟨lw_p42, fun _ h => absurd h List.not_mem_nil⟩⟩⟩⟩⟩⟩⟩⟩⟩⟩⟩
def lw_privs : List (MethodName × Nat) := lw_privs_1 ++ (lw_privs_2 ++ (lw_privs_3))
def lw_tbl : List Cond := k2_sels lw_privs ++ tables_1
theorem lw_privs_ok : ∀ q ∈ lw_privs, lw_okq q := by
  show ∀ q ∈ lw_privs_1 ++ (lw_privs_2 ++ (lw_privs_3)), lw_okq q
  exact List.forall_mem_append.mpr ⟨lw_r1, List.forall_mem_append.mpr ⟨lw_r2, lw_r3⟩⟩
-- ===== ONE list of words for every method: the tables' words that hold all through a run =====
def lw_all : List Cond := lw_tbl.filter goodWord
/-- a word of the tables by its place: claim/WORDS.tsv -/
theorem lw_w {w : Cond} (i : Nat) (h : lw_tbl[i]? = some w) (g : goodWord w = true) : w ∈ lw_all := List.mem_filter.mpr ⟨List.mem_of_getElem? h, g⟩
theorem lw_all_tbl {w : Cond} (h : w ∈ lw_all) : w ∈ lw_tbl := (List.mem_filter.mp h).1
theorem lw_self : GoodIn lw_all lw_all := fun w h => ⟨h, good_of_word (List.mem_filter.mp h).2⟩
/-- a class's field words, by their places -/
theorem lw_in (ws : List Cond) (ps : List Nat) (hp : ws = ps.filterMap (fun i => lw_tbl[i]?)) (hg : ws.all goodWord = true) : ∀ w ∈ ws, w ∈ lw_all := by
  intro w h
  have h1 := List.all_eq_true.mp hg w h
  rw [hp] at h
  obtain ⟨i, -, hi⟩ := List.mem_filterMap.mp h
  exact lw_w i hi h1
/-- the words of a contract for the method y with code b, L locals, answer r -/
abbrev ws_ (y : MethodName) (b : ByteArray) (L : Nat) (r : Option FieldType) : List Cond := Cond.code y b L r :: lw_all
theorem lw_meth {y : MethodName} {b : ByteArray} {L : Nat} {r : Option FieldType} (h : Cond.code y b L r ∈ lw_all) : GoodIn lw_all (ws_ y b L r) := by
  intro w hw
  rcases List.mem_cons.mp hw with e | e
  · rw [e]
    exact lw_self _ h
  · exact lw_self _ e
theorem lw_app {a c : List Cond} (ha : ∀ w ∈ a, w ∈ lw_all) (hc : GoodIn lw_all c) : GoodIn lw_all (a ++ c) := by
  intro w hw
  rcases List.mem_append.mp hw with e | e
  · exact lw_self w (ha w e)
  · exact hc w e
/-- what a call through an object asks: cwV n hts (lw_V ..) -/
theorem lw_V {own : String} {idx : Nat} {C : String} {y : MethodName} {b : ByteArray} {L : Nat} {r : Option FieldType} (h1 : Cond.methodLink own idx y ∈ lw_all) (h2 : Cond.instanceMethod y ∈ lw_all) (h3 : Cond.selects C y y ∈ lw_all) (h4 : Cond.initialized C ∈ lw_all) (h5 : Cond.code y b L r ∈ lw_all) : GoodIn lw_all (wsV own idx C y (ws_ y b L r)) := by
  refine lw_app ?_ (lw_meth h5)
  intro w hw
  simp only [List.mem_cons, List.not_mem_nil, or_false] at hw
  rcases hw with e | e | e | e
  · rw [e]; exact h1
  · rw [e]; exact h2
  · rw [e]; exact h3
  · rw [e]; exact h4
/-- what a static call asks: va_cwS n hts (lw_S ..) -/
theorem lw_S {own : String} {idx : Nat} {y : MethodName} {b : ByteArray} {L : Nat} {r : Option FieldType} (h1 : Cond.methodLink own idx y ∈ lw_all) (h2 : Cond.static y ∈ lw_all) (h3 : Cond.initialized y.cls ∈ lw_all) (h4 : Cond.code y b L r ∈ lw_all) : GoodIn lw_all (va_wsS own idx y (ws_ y b L r)) := by
  refine lw_app ?_ (lw_meth h4)
  intro w hw
  simp only [List.mem_cons, List.not_mem_nil, or_false] at hw
  rcases hw with e | e | e
  · rw [e]; exact h1
  · rw [e]; exact h2
  · rw [e]; exact h3
/-- the words of a contract for a method WITH HANDLERS (hh: its table) -/
abbrev wsW_ (y : MethodName) (b : ByteArray) (L : Nat) (r : Option FieldType) (hh : List (Nat × Nat × Nat × Nat)) : List Cond := Cond.codeWith y b L r hh :: lw_all
theorem lw_methW {y : MethodName} {b : ByteArray} {L : Nat} {r : Option FieldType} {hh : List (Nat × Nat × Nat × Nat)} (h : Cond.codeWith y b L r hh ∈ lw_all) : GoodIn lw_all (wsW_ y b L r hh) := by
  intro w hw
  rcases List.mem_cons.mp hw with e | e
  · rw [e]
    exact lw_self _ h
  · exact lw_self _ e
/-- any list of words by their places (lw_in), good -/
theorem lw_good {ws : List Cond} (h : ∀ w ∈ ws, w ∈ lw_all) : GoodIn lw_all ws := fun w hw => lw_self w (h w hw)
/-- what a call of a method with handlers asks: vx_cwVW n hts (lw_VW ..), vx_cwSW n hts (lw_SW ..) -/
theorem lw_VW {own : String} {idx : Nat} {C : String} {y : MethodName} {b : ByteArray} {L : Nat} {r : Option FieldType} {hh : List (Nat × Nat × Nat × Nat)} (h1 : Cond.methodLink own idx y ∈ lw_all) (h2 : Cond.instanceMethod y ∈ lw_all) (h3 : Cond.selects C y y ∈ lw_all) (h4 : Cond.initialized C ∈ lw_all) (h5 : Cond.codeWith y b L r hh ∈ lw_all) : GoodIn lw_all (wsV own idx C y (wsW_ y b L r hh)) := by
  refine lw_app ?_ (lw_methW h5)
  intro w hw
  simp only [List.mem_cons, List.not_mem_nil, or_false] at hw
  rcases hw with e | e | e | e
  · rw [e]; exact h1
  · rw [e]; exact h2
  · rw [e]; exact h3
  · rw [e]; exact h4
theorem lw_SW {own : String} {idx : Nat} {y : MethodName} {b : ByteArray} {L : Nat} {r : Option FieldType} {hh : List (Nat × Nat × Nat × Nat)} (h1 : Cond.methodLink own idx y ∈ lw_all) (h2 : Cond.static y ∈ lw_all) (h3 : Cond.initialized y.cls ∈ lw_all) (h4 : Cond.codeWith y b L r hh ∈ lw_all) : GoodIn lw_all (va_wsS own idx y (wsW_ y b L r hh)) := by
  refine lw_app ?_ (lw_methW h4)
  intro w hw
  simp only [List.mem_cons, List.not_mem_nil, or_false] at hw
  rcases hw with e | e | e
  · rw [e]; exact h1
  · rw [e]; exact h2
  · rw [e]; exact h3
/-- a word by its place in its run of the tables -/
theorem lw_at {r : List Cond} (hr : ∀ w ∈ r, w ∈ lw_tbl) {w : Cond} (i : Nat) (h : r[i]? = some w) : w ∈ lw_tbl := hr w (List.mem_of_getElem? h)
theorem lw_g {w : Cond} (h : w ∈ lw_tbl) (g : goodWord w = true) : w ∈ lw_all := List.mem_filter.mpr ⟨h, g⟩
theorem lw_ms : ∀ w ∈ k2_sels lw_privs, w ∈ lw_tbl := fun w h => show w ∈ k2_sels lw_privs ++ tables_1 from List.mem_append_left _ h
theorem lw_m1 : ∀ w ∈ tables_1_1, w ∈ lw_tbl := fun w h => show w ∈ k2_sels lw_privs ++ tables_1 from List.mem_append_right (k2_sels lw_privs) (show w ∈ tables_1 from List.mem_append_left _ h)
theorem lw_m2 : ∀ w ∈ tables_1_2, w ∈ lw_tbl := fun w h => show w ∈ k2_sels lw_privs ++ tables_1 from List.mem_append_right (k2_sels lw_privs) (show w ∈ tables_1 from List.mem_append_right _ (List.mem_append_left _ h))
theorem lw_m3 : ∀ w ∈ tables_1_3, w ∈ lw_tbl := fun w h => show w ∈ k2_sels lw_privs ++ tables_1 from List.mem_append_right (k2_sels lw_privs) (show w ∈ tables_1 from List.mem_append_right _ (List.mem_append_right _ (List.mem_append_left _ h)))
theorem lw_m4 : ∀ w ∈ tables_1_4, w ∈ lw_tbl := fun w h => show w ∈ k2_sels lw_privs ++ tables_1 from List.mem_append_right (k2_sels lw_privs) (show w ∈ tables_1 from List.mem_append_right _ (List.mem_append_right _ (List.mem_append_right _ (List.mem_append_left _ h))))
theorem lw_m5 : ∀ w ∈ tables_1_5, w ∈ lw_tbl := fun w h => show w ∈ k2_sels lw_privs ++ tables_1 from List.mem_append_right (k2_sels lw_privs) (show w ∈ tables_1 from List.mem_append_right _ (List.mem_append_right _ (List.mem_append_right _ (List.mem_append_right _ (List.mem_append_left _ h)))))
theorem lw_m6 : ∀ w ∈ tables_1_6, w ∈ lw_tbl := fun w h => show w ∈ k2_sels lw_privs ++ tables_1 from List.mem_append_right (k2_sels lw_privs) (show w ∈ tables_1 from List.mem_append_right _ (List.mem_append_right _ (List.mem_append_right _ (List.mem_append_right _ (List.mem_append_right _ h)))))
theorem qs0 : (Cond.selects "java/lang/Throwable" ⟨"java/lang/Throwable", "fillInStackTrace", "(I)Ljava/lang/Throwable;"⟩ ⟨"java/lang/Throwable", "fillInStackTrace", "(I)Ljava/lang/Throwable;"⟩) ∈ lw_all := lw_g (lw_at lw_ms 0 rfl) rfl
theorem qs1 : (Cond.selects "CommaTables" ⟨"CommaTables", "four", "(I)V"⟩ ⟨"CommaTables", "four", "(I)V"⟩) ∈ lw_all := lw_g (lw_at lw_ms 1 rfl) rfl
theorem qs2 : (Cond.selects "CommaTables" ⟨"CommaTables", "used", "()I"⟩ ⟨"CommaTables", "used", "()I"⟩) ∈ lw_all := lw_g (lw_at lw_ms 2 rfl) rfl
theorem qs3 : (Cond.selects "CommaTables$Tables" ⟨"CommaTables$Tables", "line", "(Z)V"⟩ ⟨"CommaTables$Tables", "line", "(Z)V"⟩) ∈ lw_all := lw_g (lw_at lw_ms 3 rfl) rfl
theorem qs4 : (Cond.selects "CommaTables$Tables" ⟨"CommaTables$Tables", "wrong", "(I)Ljava/lang/IllegalStateException;"⟩ ⟨"CommaTables$Tables", "wrong", "(I)Ljava/lang/IllegalStateException;"⟩) ∈ lw_all := lw_g (lw_at lw_ms 4 rfl) rfl
theorem qs5 : (Cond.selects "CommaTables$Tables" ⟨"CommaTables$Tables", "cell", "(ZI)V"⟩ ⟨"CommaTables$Tables", "cell", "(ZI)V"⟩) ∈ lw_all := lw_g (lw_at lw_ms 5 rfl) rfl
theorem qs6 : (Cond.selects "CommaTables$Tables" ⟨"CommaTables$Tables", "look", "()I"⟩ ⟨"CommaTables$Tables", "look", "()I"⟩) ∈ lw_all := lw_g (lw_at lw_ms 6 rfl) rfl
theorem qs7 : (Cond.selects "CommaTables$Tables" ⟨"CommaTables$Tables", "quoted", "()V"⟩ ⟨"CommaTables$Tables", "quoted", "()V"⟩) ∈ lw_all := lw_g (lw_at lw_ms 7 rfl) rfl
theorem qs8 : (Cond.selects "CommaTables$Tables" ⟨"CommaTables$Tables", "mean", "()V"⟩ ⟨"CommaTables$Tables", "mean", "()V"⟩) ∈ lw_all := lw_g (lw_at lw_ms 8 rfl) rfl
theorem qs9 : (Cond.selects "CommaTables$Tables" ⟨"CommaTables$Tables", "isSame", "(II)Z"⟩ ⟨"CommaTables$Tables", "isSame", "(II)Z"⟩) ∈ lw_all := lw_g (lw_at lw_ms 9 rfl) rfl
theorem qs10 : (Cond.selects "CommaTables$Tables" ⟨"CommaTables$Tables", "length", "(I)I"⟩ ⟨"CommaTables$Tables", "length", "(I)I"⟩) ∈ lw_all := lw_g (lw_at lw_ms 10 rfl) rfl
theorem qs11 : (Cond.selects "CommaTables$Tables" ⟨"CommaTables$Tables", "make", "(I)I"⟩ ⟨"CommaTables$Tables", "make", "(I)I"⟩) ∈ lw_all := lw_g (lw_at lw_ms 11 rfl) rfl
theorem qs12 : (Cond.selects "CommaTables$Tables" ⟨"CommaTables$Tables", "finish", "(LCommaTables$Table;)I"⟩ ⟨"CommaTables$Tables", "finish", "(LCommaTables$Table;)I"⟩) ∈ lw_all := lw_g (lw_at lw_ms 12 rfl) rfl
theorem qs13 : (Cond.selects "CommaTables$Tables" ⟨"CommaTables$Tables", "laneOf", "(LCommaTables$Table;I)I"⟩ ⟨"CommaTables$Tables", "laneOf", "(LCommaTables$Table;I)I"⟩) ∈ lw_all := lw_g (lw_at lw_ms 13 rfl) rfl
theorem qs14 : (Cond.selects "CommaTables$Tables" ⟨"CommaTables$Tables", "takesAll", "(ILCommaTables$Table;I)Z"⟩ ⟨"CommaTables$Tables", "takesAll", "(ILCommaTables$Table;I)Z"⟩) ∈ lw_all := lw_g (lw_at lw_ms 14 rfl) rfl
theorem qs15 : (Cond.selects "CommaTables$Tables" ⟨"CommaTables$Tables", "takes", "(ILCommaTables$Table;I)Z"⟩ ⟨"CommaTables$Tables", "takes", "(ILCommaTables$Table;I)Z"⟩) ∈ lw_all := lw_g (lw_at lw_ms 15 rfl) rfl
theorem qs16 : (Cond.selects "CommaTables$Tables" ⟨"CommaTables$Tables", "laneOfCell", "(LCommaTables$Table;I)I"⟩ ⟨"CommaTables$Tables", "laneOfCell", "(LCommaTables$Table;I)I"⟩) ∈ lw_all := lw_g (lw_at lw_ms 16 rfl) rfl
theorem qs17 : (Cond.selects "CommaTables$Tables" ⟨"CommaTables$Tables", "isWord", "(IILjava/lang/String;)Z"⟩ ⟨"CommaTables$Tables", "isWord", "(IILjava/lang/String;)Z"⟩) ∈ lw_all := lw_g (lw_at lw_ms 17 rfl) rfl
theorem qs18 : (Cond.selects "CommaTables$Tables" ⟨"CommaTables$Tables", "wholeLane", "(IIZ)I"⟩ ⟨"CommaTables$Tables", "wholeLane", "(IIZ)I"⟩) ∈ lw_all := lw_g (lw_at lw_ms 18 rfl) rfl
theorem qs19 : (Cond.selects "CommaTables$Tables" ⟨"CommaTables$Tables", "value", "(LCommaTables$Table;II)J"⟩ ⟨"CommaTables$Tables", "value", "(LCommaTables$Table;II)J"⟩) ∈ lw_all := lw_g (lw_at lw_ms 19 rfl) rfl
theorem qs20 : (Cond.selects "CommaTables$Tables" ⟨"CommaTables$Tables", "before", "(LCommaTables$Table;II)J"⟩ ⟨"CommaTables$Tables", "before", "(LCommaTables$Table;II)J"⟩) ∈ lw_all := lw_g (lw_at lw_ms 20 rfl) rfl
theorem qs21 : (Cond.selects "CommaTables$Orders" ⟨"CommaTables$Orders", "join", "(III)V"⟩ ⟨"CommaTables$Orders", "join", "(III)V"⟩) ∈ lw_all := lw_g (lw_at lw_ms 21 rfl) rfl
theorem qs22 : (Cond.selects "CommaTables$Orders" ⟨"CommaTables$Orders", "isBefore", "(II)Z"⟩ ⟨"CommaTables$Orders", "isBefore", "(II)Z"⟩) ∈ lw_all := lw_g (lw_at lw_ms 22 rfl) rfl
theorem qs23 : (Cond.selects "CommaTables$Tables" ⟨"CommaTables$Tables", "needsMarks", "(II)Z"⟩ ⟨"CommaTables$Tables", "needsMarks", "(II)Z"⟩) ∈ lw_all := lw_g (lw_at lw_ms 23 rfl) rfl
theorem qs24 : (Cond.selects "CommaTables$Tables" ⟨"CommaTables$Tables", "say", "(LCommaTables$Out;IIZ)Z"⟩ ⟨"CommaTables$Tables", "say", "(LCommaTables$Out;IIZ)Z"⟩) ∈ lw_all := lw_g (lw_at lw_ms 24 rfl) rfl
theorem qs25 : (Cond.selects "CommaTables$Tables" ⟨"CommaTables$Tables", "isMarked", "(LCommaTables$Table;II)Z"⟩ ⟨"CommaTables$Tables", "isMarked", "(LCommaTables$Table;II)Z"⟩) ∈ lw_all := lw_g (lw_at lw_ms 25 rfl) rfl
theorem qs26 : (Cond.selects "CommaTablesModel" ⟨"CommaTablesModel", "word", "(I)V"⟩ ⟨"CommaTablesModel", "word", "(I)V"⟩) ∈ lw_all := lw_g (lw_at lw_ms 26 rfl) rfl
theorem qs27 : (Cond.selects "CommaTablesModel" ⟨"CommaTablesModel", "used", "()I"⟩ ⟨"CommaTablesModel", "used", "()I"⟩) ∈ lw_all := lw_g (lw_at lw_ms 27 rfl) rfl
theorem qs28 : (Cond.selects "CommaTablesModel$TableReader" ⟨"CommaTablesModel$TableReader", "names", "()V"⟩ ⟨"CommaTablesModel$TableReader", "names", "()V"⟩) ∈ lw_all := lw_g (lw_at lw_ms 28 rfl) rfl
theorem qs29 : (Cond.selects "CommaTablesModel$TableReader" ⟨"CommaTablesModel$TableReader", "wrong", "(I)Ljava/lang/IllegalStateException;"⟩ ⟨"CommaTablesModel$TableReader", "wrong", "(I)Ljava/lang/IllegalStateException;"⟩) ∈ lw_all := lw_g (lw_at lw_ms 29 rfl) rfl
theorem qs30 : (Cond.selects "CommaTablesModel$TableReader" ⟨"CommaTablesModel$TableReader", "word", "()Ljava/lang/String;"⟩ ⟨"CommaTablesModel$TableReader", "word", "()Ljava/lang/String;"⟩) ∈ lw_all := lw_g (lw_at lw_ms 30 rfl) rfl
theorem qs31 : (Cond.selects "CommaTablesModel$TableReader" ⟨"CommaTablesModel$TableReader", "is", "(I)Z"⟩ ⟨"CommaTablesModel$TableReader", "is", "(I)Z"⟩) ∈ lw_all := lw_g (lw_at lw_ms 31 rfl) rfl
theorem qs32 : (Cond.selects "CommaTablesModel$TableReader" ⟨"CommaTablesModel$TableReader", "mustEnd", "()V"⟩ ⟨"CommaTablesModel$TableReader", "mustEnd", "()V"⟩) ∈ lw_all := lw_g (lw_at lw_ms 32 rfl) rfl
theorem qs33 : (Cond.selects "java/util/ArrayList" ⟨"java/util/ArrayList", "add", "(Ljava/lang/Object;[Ljava/lang/Object;I)V"⟩ ⟨"java/util/ArrayList", "add", "(Ljava/lang/Object;[Ljava/lang/Object;I)V"⟩) ∈ lw_all := lw_g (lw_at lw_ms 33 rfl) rfl
theorem qs34 : (Cond.selects "java/util/ArrayList" ⟨"java/util/ArrayList", "grow", "()[Ljava/lang/Object;"⟩ ⟨"java/util/ArrayList", "grow", "()[Ljava/lang/Object;"⟩) ∈ lw_all := lw_g (lw_at lw_ms 34 rfl) rfl
theorem qs35 : (Cond.selects "java/util/ArrayList" ⟨"java/util/ArrayList", "grow", "(I)[Ljava/lang/Object;"⟩ ⟨"java/util/ArrayList", "grow", "(I)[Ljava/lang/Object;"⟩) ∈ lw_all := lw_g (lw_at lw_ms 35 rfl) rfl
theorem qs36 : (Cond.selects "CommaTablesModel$TableReader" ⟨"CommaTablesModel$TableReader", "line", "()V"⟩ ⟨"CommaTablesModel$TableReader", "line", "()V"⟩) ∈ lw_all := lw_g (lw_at lw_ms 36 rfl) rfl
theorem qs37 : (Cond.selects "CommaTablesModel" ⟨"CommaTablesModel", "tabled", "(LCommaTablesModel$Table;I)I"⟩ ⟨"CommaTablesModel", "tabled", "(LCommaTablesModel$Table;I)I"⟩) ∈ lw_all := lw_g (lw_at lw_ms 37 rfl) rfl
theorem qs38 : (Cond.selects "CommaTablesModel" ⟨"CommaTablesModel", "isTable", "(I)Z"⟩ ⟨"CommaTablesModel", "isTable", "(I)Z"⟩) ∈ lw_all := lw_g (lw_at lw_ms 38 rfl) rfl
theorem qs39 : (Cond.selects "CommaTablesModel" ⟨"CommaTablesModel", "isColumn", "(II)Z"⟩ ⟨"CommaTablesModel", "isColumn", "(II)Z"⟩) ∈ lw_all := lw_g (lw_at lw_ms 39 rfl) rfl
theorem qs40 : (Cond.selects "CommaTablesModel" ⟨"CommaTablesModel", "isCell", "(III)Z"⟩ ⟨"CommaTablesModel", "isCell", "(III)Z"⟩) ∈ lw_all := lw_g (lw_at lw_ms 40 rfl) rfl
theorem qs41 : (Cond.selects "CommaTablesModel" ⟨"CommaTablesModel", "writeWord", "(Ljava/lang/String;Z)V"⟩ ⟨"CommaTablesModel", "writeWord", "(Ljava/lang/String;Z)V"⟩) ∈ lw_all := lw_g (lw_at lw_ms 41 rfl) rfl
theorem qs42 : (Cond.selects "CommaTablesModel" ⟨"CommaTablesModel", "told", "()I"⟩ ⟨"CommaTablesModel", "told", "()I"⟩) ∈ lw_all := lw_g (lw_at lw_ms 42 rfl) rfl
