-- ===== PART A: goes FIRST, ahead of the names: the tables' words, and 'selects' of the private methods out of them =====
/-- a private method of a class that the tables say can be made, by its rows of tables_1 -/
def lw_okq (q : MethodName × Nat) : Prop := (q.1.cls ≠ "java/lang/invoke/MethodHandle" ∧ q.1.cls ≠ "java/lang/invoke/VarHandle") ∧ Cond.instantiable q.1.cls q.2 ∈ tables_1 ∧ Cond.privateMethod q.1 ∈ tables_1 ∧ Cond.instanceMethod q.1 ∈ tables_1
set_option maxRecDepth 100000
theorem lw_t1 {w : Cond} (h : w ∈ tables_1_1) : w ∈ tables_1 := List.mem_append_left _ h
theorem lw_t2 {w : Cond} (h : w ∈ tables_1_2) : w ∈ tables_1 := List.mem_append_right _ (List.mem_append_left _ h)
theorem lw_t3 {w : Cond} (h : w ∈ tables_1_3) : w ∈ tables_1 := List.mem_append_right _ (List.mem_append_right _ (List.mem_append_left _ h))
theorem lw_t4 {w : Cond} (h : w ∈ tables_1_4) : w ∈ tables_1 := List.mem_append_right _ (List.mem_append_right _ (List.mem_append_right _ (List.mem_append_left _ h)))
theorem lw_t5 {w : Cond} (h : w ∈ tables_1_5) : w ∈ tables_1 := List.mem_append_right _ (List.mem_append_right _ (List.mem_append_right _ (List.mem_append_right _ (List.mem_append_left _ h))))
theorem lw_t6 {w : Cond} (h : w ∈ tables_1_6) : w ∈ tables_1 := List.mem_append_right _ (List.mem_append_right _ (List.mem_append_right _ (List.mem_append_right _ (List.mem_append_right _ (List.mem_append_left _ h)))))
theorem lw_t7 {w : Cond} (h : w ∈ tables_1_7) : w ∈ tables_1 := List.mem_append_right _ (List.mem_append_right _ (List.mem_append_right _ (List.mem_append_right _ (List.mem_append_right _ (List.mem_append_right _ (List.mem_append_left _ h))))))
theorem lw_t8 {w : Cond} (h : w ∈ tables_1_8) : w ∈ tables_1 := List.mem_append_right _ (List.mem_append_right _ (List.mem_append_right _ (List.mem_append_right _ (List.mem_append_right _ (List.mem_append_right _ (List.mem_append_right _ (List.mem_append_left _ h)))))))
theorem lw_t9 {w : Cond} (h : w ∈ tables_1_9) : w ∈ tables_1 := List.mem_append_right _ (List.mem_append_right _ (List.mem_append_right _ (List.mem_append_right _ (List.mem_append_right _ (List.mem_append_right _ (List.mem_append_right _ (List.mem_append_right _ h)))))))
theorem lw_p0 : lw_okq (⟨"java/lang/Throwable", "fillInStackTrace", "(I)Ljava/lang/Throwable;"⟩, 6) := ⟨⟨by decide +kernel, by decide +kernel⟩, lw_t1 (List.mem_of_getElem? (i := 220) rfl), lw_t1 (List.mem_of_getElem? (i := 218) rfl), lw_t1 (List.mem_of_getElem? (i := 219) rfl)⟩
theorem lw_p1 : lw_okq (⟨"IntentVats$Reader", "begins", "([BI)V"⟩, 8) := ⟨⟨by decide +kernel, by decide +kernel⟩, lw_t1 (List.mem_of_getElem? (i := 161) rfl), lw_t2 (List.mem_of_getElem? (i := 192) rfl), lw_t2 (List.mem_of_getElem? (i := 193) rfl)⟩
theorem lw_p2 : lw_okq (⟨"IntentVats$Reader", "next", "()V"⟩, 8) := ⟨⟨by decide +kernel, by decide +kernel⟩, lw_t1 (List.mem_of_getElem? (i := 161) rfl), lw_t2 (List.mem_of_getElem? (i := 196) rfl), lw_t2 (List.mem_of_getElem? (i := 197) rfl)⟩
theorem lw_p3 : lw_okq (⟨"IntentVats$Reader", "here", "()I"⟩, 8) := ⟨⟨by decide +kernel, by decide +kernel⟩, lw_t1 (List.mem_of_getElem? (i := 161) rfl), lw_t2 (List.mem_of_getElem? (i := 200) rfl), lw_t2 (List.mem_of_getElem? (i := 201) rfl)⟩
theorem lw_p4 : lw_okq (⟨"IntentVats$Reader", "item", "()V"⟩, 8) := ⟨⟨by decide +kernel, by decide +kernel⟩, lw_t1 (List.mem_of_getElem? (i := 161) rfl), lw_t2 (List.mem_of_getElem? (i := 211) rfl), lw_t2 (List.mem_of_getElem? (i := 212) rfl)⟩
theorem lw_p5 : lw_okq (⟨"IntentVats$Reader", "isWord", "(Ljava/lang/String;)Z"⟩, 8) := ⟨⟨by decide +kernel, by decide +kernel⟩, lw_t1 (List.mem_of_getElem? (i := 161) rfl), lw_t2 (List.mem_of_getElem? (i := 218) rfl), lw_t2 (List.mem_of_getElem? (i := 219) rfl)⟩
theorem lw_p6 : lw_okq (⟨"IntentVats$Reader", "cloth", "(I)V"⟩, 8) := ⟨⟨by decide +kernel, by decide +kernel⟩, lw_t1 (List.mem_of_getElem? (i := 161) rfl), lw_t3 (List.mem_of_getElem? (i := 30) rfl), lw_t3 (List.mem_of_getElem? (i := 31) rfl)⟩
theorem lw_p7 : lw_okq (⟨"IntentVats$Reader", "need", "(Z)V"⟩, 8) := ⟨⟨by decide +kernel, by decide +kernel⟩, lw_t1 (List.mem_of_getElem? (i := 161) rfl), lw_t3 (List.mem_of_getElem? (i := 34) rfl), lw_t3 (List.mem_of_getElem? (i := 35) rfl)⟩
theorem lw_p8 : lw_okq (⟨"IntentVats$Reader", "may", "(Ljava/lang/String;)Z"⟩, 8) := ⟨⟨by decide +kernel, by decide +kernel⟩, lw_t1 (List.mem_of_getElem? (i := 161) rfl), lw_t3 (List.mem_of_getElem? (i := 51) rfl), lw_t3 (List.mem_of_getElem? (i := 52) rfl)⟩
theorem lw_p9 : lw_okq (⟨"IntentVats$Reader", "number", "(II)I"⟩, 8) := ⟨⟨by decide +kernel, by decide +kernel⟩, lw_t1 (List.mem_of_getElem? (i := 161) rfl), lw_t3 (List.mem_of_getElem? (i := 55) rfl), lw_t3 (List.mem_of_getElem? (i := 56) rfl)⟩
theorem lw_p10 : lw_okq (⟨"IntentVats$Reader", "seen", "(II)I"⟩, 8) := ⟨⟨by decide +kernel, by decide +kernel⟩, lw_t1 (List.mem_of_getElem? (i := 161) rfl), lw_t3 (List.mem_of_getElem? (i := 59) rfl), lw_t3 (List.mem_of_getElem? (i := 60) rfl)⟩
theorem lw_p11 : lw_okq (⟨"IntentVats$Reader", "vat", "()V"⟩, 8) := ⟨⟨by decide +kernel, by decide +kernel⟩, lw_t1 (List.mem_of_getElem? (i := 161) rfl), lw_t3 (List.mem_of_getElem? (i := 68) rfl), lw_t3 (List.mem_of_getElem? (i := 69) rfl)⟩
theorem lw_p12 : lw_okq (⟨"IntentVats$Reader", "must", "(Ljava/lang/String;)V"⟩, 8) := ⟨⟨by decide +kernel, by decide +kernel⟩, lw_t1 (List.mem_of_getElem? (i := 161) rfl), lw_t3 (List.mem_of_getElem? (i := 73) rfl), lw_t3 (List.mem_of_getElem? (i := 74) rfl)⟩
theorem lw_p13 : lw_okq (⟨"IntentVats$Reader", "strong", "()V"⟩, 8) := ⟨⟨by decide +kernel, by decide +kernel⟩, lw_t1 (List.mem_of_getElem? (i := 161) rfl), lw_t3 (List.mem_of_getElem? (i := 78) rfl), lw_t3 (List.mem_of_getElem? (i := 79) rfl)⟩
theorem lw_p14 : lw_okq (⟨"IntentVats$Reader", "day", "()V"⟩, 8) := ⟨⟨by decide +kernel, by decide +kernel⟩, lw_t1 (List.mem_of_getElem? (i := 161) rfl), lw_t3 (List.mem_of_getElem? (i := 83) rfl), lw_t3 (List.mem_of_getElem? (i := 84) rfl)⟩
theorem lw_p15 : lw_okq (⟨"IntentVats", "isCloth", "(I)Z"⟩, 18) := ⟨⟨by decide +kernel, by decide +kernel⟩, lw_t1 (List.mem_of_getElem? (i := 36) rfl), lw_t3 (List.mem_of_getElem? (i := 137) rfl), lw_t3 (List.mem_of_getElem? (i := 138) rfl)⟩
def lw_privs_1 : List (MethodName × Nat) := [(⟨"java/lang/Throwable", "fillInStackTrace", "(I)Ljava/lang/Throwable;"⟩, 6), (⟨"IntentVats$Reader", "begins", "([BI)V"⟩, 8), (⟨"IntentVats$Reader", "next", "()V"⟩, 8), (⟨"IntentVats$Reader", "here", "()I"⟩, 8), (⟨"IntentVats$Reader", "item", "()V"⟩, 8), (⟨"IntentVats$Reader", "isWord", "(Ljava/lang/String;)Z"⟩, 8), (⟨"IntentVats$Reader", "cloth", "(I)V"⟩, 8), (⟨"IntentVats$Reader", "need", "(Z)V"⟩, 8), (⟨"IntentVats$Reader", "may", "(Ljava/lang/String;)Z"⟩, 8), (⟨"IntentVats$Reader", "number", "(II)I"⟩, 8), (⟨"IntentVats$Reader", "seen", "(II)I"⟩, 8), (⟨"IntentVats$Reader", "vat", "()V"⟩, 8), (⟨"IntentVats$Reader", "must", "(Ljava/lang/String;)V"⟩, 8), (⟨"IntentVats$Reader", "strong", "()V"⟩, 8), (⟨"IntentVats$Reader", "day", "()V"⟩, 8), (⟨"IntentVats", "isCloth", "(I)Z"⟩, 18)]
theorem lw_r1 : ∀ q ∈ lw_privs_1, lw_okq q := List.forall_mem_cons.mpr ⟨lw_p0, List.forall_mem_cons.mpr ⟨lw_p1, List.forall_mem_cons.mpr ⟨lw_p2, List.forall_mem_cons.mpr ⟨lw_p3, List.forall_mem_cons.mpr ⟨lw_p4, List.forall_mem_cons.mpr ⟨lw_p5, List.forall_mem_cons.mpr ⟨lw_p6, List.forall_mem_cons.mpr ⟨lw_p7, List.forall_mem_cons.mpr ⟨lw_p8, List.forall_mem_cons.mpr ⟨lw_p9, List.forall_mem_cons.mpr ⟨lw_p10, List.forall_mem_cons.mpr ⟨lw_p11, List.forall_mem_cons.mpr ⟨lw_p12, List.forall_mem_cons.mpr ⟨lw_p13, List.forall_mem_cons.mpr ⟨lw_p14, List.forall_mem_cons.mpr ⟨lw_p15, fun _ h => absurd h List.not_mem_nil⟩⟩⟩⟩⟩⟩⟩⟩⟩⟩⟩⟩⟩⟩⟩⟩
theorem lw_p16 : lw_okq (⟨"IntentVats", "wayOf", "(LIntentVats$Mill;I)LIntentVats$Plain;"⟩, 18) := ⟨⟨by decide +kernel, by decide +kernel⟩, lw_t1 (List.mem_of_getElem? (i := 36) rfl), lw_t3 (List.mem_of_getElem? (i := 152) rfl), lw_t3 (List.mem_of_getElem? (i := 153) rfl)⟩
theorem lw_p17 : lw_okq (⟨"IntentVats", "dips", "(LIntentVats$Mill;II)V"⟩, 18) := ⟨⟨by decide +kernel, by decide +kernel⟩, lw_t1 (List.mem_of_getElem? (i := 36) rfl), lw_t4 (List.mem_of_getElem? (i := 7) rfl), lw_t4 (List.mem_of_getElem? (i := 8) rfl)⟩
theorem lw_p18 : lw_okq (⟨"IntentVats", "daysGo", "(LIntentVats$Mill;I)V"⟩, 18) := ⟨⟨by decide +kernel, by decide +kernel⟩, lw_t1 (List.mem_of_getElem? (i := 36) rfl), lw_t4 (List.mem_of_getElem? (i := 27) rfl), lw_t4 (List.mem_of_getElem? (i := 28) rfl)⟩
theorem lw_p19 : lw_okq (⟨"IntentVats", "dayGoes", "(LIntentVats$Mill;)V"⟩, 18) := ⟨⟨by decide +kernel, by decide +kernel⟩, lw_t1 (List.mem_of_getElem? (i := 36) rfl), lw_t4 (List.mem_of_getElem? (i := 31) rfl), lw_t4 (List.mem_of_getElem? (i := 32) rfl)⟩
theorem lw_p20 : lw_okq (⟨"IntentVats", "dayByDraws", "(LIntentVats$Mill;)V"⟩, 18) := ⟨⟨by decide +kernel, by decide +kernel⟩, lw_t1 (List.mem_of_getElem? (i := 36) rfl), lw_t4 (List.mem_of_getElem? (i := 51) rfl), lw_t4 (List.mem_of_getElem? (i := 52) rfl)⟩
theorem lw_p21 : lw_okq (⟨"IntentVats", "isAsked", "(III)Z"⟩, 18) := ⟨⟨by decide +kernel, by decide +kernel⟩, lw_t1 (List.mem_of_getElem? (i := 36) rfl), lw_t4 (List.mem_of_getElem? (i := 85) rfl), lw_t4 (List.mem_of_getElem? (i := 86) rfl)⟩
theorem lw_p22 : lw_okq (⟨"IntentVats", "firstAbout", "(II)I"⟩, 18) := ⟨⟨by decide +kernel, by decide +kernel⟩, lw_t1 (List.mem_of_getElem? (i := 36) rfl), lw_t4 (List.mem_of_getElem? (i := 97) rfl), lw_t4 (List.mem_of_getElem? (i := 98) rfl)⟩
theorem lw_p23 : lw_okq (⟨"IntentVats", "spoiltTried", "(I)I"⟩, 18) := ⟨⟨by decide +kernel, by decide +kernel⟩, lw_t1 (List.mem_of_getElem? (i := 36) rfl), lw_t4 (List.mem_of_getElem? (i := 109) rfl), lw_t4 (List.mem_of_getElem? (i := 110) rfl)⟩
theorem lw_p24 : lw_okq (⟨"IntentVats", "dippedThrough", "(III)I"⟩, 18) := ⟨⟨by decide +kernel, by decide +kernel⟩, lw_t1 (List.mem_of_getElem? (i := 36) rfl), lw_t4 (List.mem_of_getElem? (i := 117) rfl), lw_t4 (List.mem_of_getElem? (i := 118) rfl)⟩
theorem lw_p25 : lw_okq (⟨"IntentVats", "depthsTried", "(I)I"⟩, 18) := ⟨⟨by decide +kernel, by decide +kernel⟩, lw_t1 (List.mem_of_getElem? (i := 36) rfl), lw_t4 (List.mem_of_getElem? (i := 125) rfl), lw_t4 (List.mem_of_getElem? (i := 126) rfl)⟩
theorem lw_p26 : lw_okq (⟨"IntentVats", "there", "(Ljava/lang/Object;)Ljava/lang/Object;"⟩, 18) := ⟨⟨by decide +kernel, by decide +kernel⟩, lw_t1 (List.mem_of_getElem? (i := 36) rfl), lw_t4 (List.mem_of_getElem? (i := 155) rfl), lw_t4 (List.mem_of_getElem? (i := 156) rfl)⟩
theorem lw_p27 : lw_okq (⟨"IntentVats", "fitsOf", "(Ljava/lang/Object;IZ)I"⟩, 18) := ⟨⟨by decide +kernel, by decide +kernel⟩, lw_t1 (List.mem_of_getElem? (i := 36) rfl), lw_t4 (List.mem_of_getElem? (i := 159) rfl), lw_t4 (List.mem_of_getElem? (i := 160) rfl)⟩
theorem lw_p28 : lw_okq (⟨"IntentVats", "isTold", "(Ljava/lang/Object;I)Z"⟩, 18) := ⟨⟨by decide +kernel, by decide +kernel⟩, lw_t1 (List.mem_of_getElem? (i := 36) rfl), lw_t4 (List.mem_of_getElem? (i := 163) rfl), lw_t4 (List.mem_of_getElem? (i := 164) rfl)⟩
theorem lw_p29 : lw_okq (⟨"IntentVats", "isRow", "(II)Z"⟩, 18) := ⟨⟨by decide +kernel, by decide +kernel⟩, lw_t1 (List.mem_of_getElem? (i := 36) rfl), lw_t4 (List.mem_of_getElem? (i := 206) rfl), lw_t4 (List.mem_of_getElem? (i := 207) rfl)⟩
theorem lw_p30 : lw_okq (⟨"IntentVats", "rowAt", "(I)LIntentVats$Row;"⟩, 18) := ⟨⟨by decide +kernel, by decide +kernel⟩, lw_t1 (List.mem_of_getElem? (i := 36) rfl), lw_t4 (List.mem_of_getElem? (i := 218) rfl), lw_t4 (List.mem_of_getElem? (i := 219) rfl)⟩
theorem lw_p31 : lw_okq (⟨"IntentVats", "goesAs", "(LIntentVats$Mill;I[I)V"⟩, 18) := ⟨⟨by decide +kernel, by decide +kernel⟩, lw_t1 (List.mem_of_getElem? (i := 36) rfl), lw_t4 (List.mem_of_getElem? (i := 232) rfl), lw_t4 (List.mem_of_getElem? (i := 233) rfl)⟩
def lw_privs_2 : List (MethodName × Nat) := [(⟨"IntentVats", "wayOf", "(LIntentVats$Mill;I)LIntentVats$Plain;"⟩, 18), (⟨"IntentVats", "dips", "(LIntentVats$Mill;II)V"⟩, 18), (⟨"IntentVats", "daysGo", "(LIntentVats$Mill;I)V"⟩, 18), (⟨"IntentVats", "dayGoes", "(LIntentVats$Mill;)V"⟩, 18), (⟨"IntentVats", "dayByDraws", "(LIntentVats$Mill;)V"⟩, 18), (⟨"IntentVats", "isAsked", "(III)Z"⟩, 18), (⟨"IntentVats", "firstAbout", "(II)I"⟩, 18), (⟨"IntentVats", "spoiltTried", "(I)I"⟩, 18), (⟨"IntentVats", "dippedThrough", "(III)I"⟩, 18), (⟨"IntentVats", "depthsTried", "(I)I"⟩, 18), (⟨"IntentVats", "there", "(Ljava/lang/Object;)Ljava/lang/Object;"⟩, 18), (⟨"IntentVats", "fitsOf", "(Ljava/lang/Object;IZ)I"⟩, 18), (⟨"IntentVats", "isTold", "(Ljava/lang/Object;I)Z"⟩, 18), (⟨"IntentVats", "isRow", "(II)Z"⟩, 18), (⟨"IntentVats", "rowAt", "(I)LIntentVats$Row;"⟩, 18), (⟨"IntentVats", "goesAs", "(LIntentVats$Mill;I[I)V"⟩, 18)]
theorem lw_r2 : ∀ q ∈ lw_privs_2, lw_okq q := List.forall_mem_cons.mpr ⟨lw_p16, List.forall_mem_cons.mpr ⟨lw_p17, List.forall_mem_cons.mpr ⟨lw_p18, List.forall_mem_cons.mpr ⟨lw_p19, List.forall_mem_cons.mpr ⟨lw_p20, List.forall_mem_cons.mpr ⟨lw_p21, List.forall_mem_cons.mpr ⟨lw_p22, List.forall_mem_cons.mpr ⟨lw_p23, List.forall_mem_cons.mpr ⟨lw_p24, List.forall_mem_cons.mpr ⟨lw_p25, List.forall_mem_cons.mpr ⟨lw_p26, List.forall_mem_cons.mpr ⟨lw_p27, List.forall_mem_cons.mpr ⟨lw_p28, List.forall_mem_cons.mpr ⟨lw_p29, List.forall_mem_cons.mpr ⟨lw_p30, List.forall_mem_cons.mpr ⟨lw_p31, fun _ h => absurd h List.not_mem_nil⟩⟩⟩⟩⟩⟩⟩⟩⟩⟩⟩⟩⟩⟩⟩⟩
theorem lw_p32 : lw_okq (⟨"IntentVats", "mindsOf", "([BIII)V"⟩, 18) := ⟨⟨by decide +kernel, by decide +kernel⟩, lw_t1 (List.mem_of_getElem? (i := 36) rfl), lw_t5 (List.mem_of_getElem? (i := 34) rfl), lw_t5 (List.mem_of_getElem? (i := 35) rfl)⟩
theorem lw_p33 : lw_okq (⟨"IntentVats", "within", "(II)V"⟩, 18) := ⟨⟨by decide +kernel, by decide +kernel⟩, lw_t1 (List.mem_of_getElem? (i := 36) rfl), lw_t5 (List.mem_of_getElem? (i := 38) rfl), lw_t5 (List.mem_of_getElem? (i := 39) rfl)⟩
theorem lw_p34 : lw_okq (⟨"IntentVats", "set", "(Ljava/lang/Object;II)V"⟩, 18) := ⟨⟨by decide +kernel, by decide +kernel⟩, lw_t1 (List.mem_of_getElem? (i := 36) rfl), lw_t5 (List.mem_of_getElem? (i := 70) rfl), lw_t5 (List.mem_of_getElem? (i := 71) rfl)⟩
theorem lw_p35 : lw_okq (⟨"IntentVats", "itemOf", "(Ljava/lang/Object;II)I"⟩, 18) := ⟨⟨by decide +kernel, by decide +kernel⟩, lw_t1 (List.mem_of_getElem? (i := 36) rfl), lw_t5 (List.mem_of_getElem? (i := 78) rfl), lw_t5 (List.mem_of_getElem? (i := 79) rfl)⟩
theorem lw_p36 : lw_okq (⟨"IntentVats", "byteAt", "([BI)I"⟩, 18) := ⟨⟨by decide +kernel, by decide +kernel⟩, lw_t1 (List.mem_of_getElem? (i := 36) rfl), lw_t5 (List.mem_of_getElem? (i := 82) rfl), lw_t5 (List.mem_of_getElem? (i := 83) rfl)⟩
theorem lw_p37 : lw_okq (⟨"IntentVats", "shortAt", "([SI)I"⟩, 18) := ⟨⟨by decide +kernel, by decide +kernel⟩, lw_t1 (List.mem_of_getElem? (i := 36) rfl), lw_t5 (List.mem_of_getElem? (i := 86) rfl), lw_t5 (List.mem_of_getElem? (i := 87) rfl)⟩
theorem lw_p38 : lw_okq (⟨"IntentVats", "intAt", "([II)I"⟩, 18) := ⟨⟨by decide +kernel, by decide +kernel⟩, lw_t1 (List.mem_of_getElem? (i := 36) rfl), lw_t5 (List.mem_of_getElem? (i := 90) rfl), lw_t5 (List.mem_of_getElem? (i := 91) rfl)⟩
theorem lw_p39 : lw_okq (⟨"IntentVats", "longAt", "([JI)I"⟩, 18) := ⟨⟨by decide +kernel, by decide +kernel⟩, lw_t1 (List.mem_of_getElem? (i := 36) rfl), lw_t5 (List.mem_of_getElem? (i := 94) rfl), lw_t5 (List.mem_of_getElem? (i := 95) rfl)⟩
theorem lw_p40 : lw_okq (⟨"IntentVats", "heldOf", "(LIntentVats$Shelf;)Ljava/lang/Object;"⟩, 18) := ⟨⟨by decide +kernel, by decide +kernel⟩, lw_t1 (List.mem_of_getElem? (i := 36) rfl), lw_t5 (List.mem_of_getElem? (i := 109) rfl), lw_t5 (List.mem_of_getElem? (i := 110) rfl)⟩
theorem lw_p41 : lw_okq (⟨"IntentVats", "asOne", "(I)LIntentVats$Dries;"⟩, 18) := ⟨⟨by decide +kernel, by decide +kernel⟩, lw_t1 (List.mem_of_getElem? (i := 36) rfl), lw_t5 (List.mem_of_getElem? (i := 113) rfl), lw_t5 (List.mem_of_getElem? (i := 114) rfl)⟩
theorem lw_p42 : lw_okq (⟨"IntentVats", "ran", "(I)V"⟩, 18) := ⟨⟨by decide +kernel, by decide +kernel⟩, lw_t1 (List.mem_of_getElem? (i := 36) rfl), lw_t6 (List.mem_of_getElem? (i := 33) rfl), lw_t6 (List.mem_of_getElem? (i := 34) rfl)⟩
theorem lw_p43 : lw_okq (⟨"IntentVatsModel", "anew", "()V"⟩, 25) := ⟨⟨by decide +kernel, by decide +kernel⟩, lw_t6 (List.mem_of_getElem? (i := 213) rfl), lw_t6 (List.mem_of_getElem? (i := 219) rfl), lw_t6 (List.mem_of_getElem? (i := 220) rfl)⟩
theorem lw_p44 : lw_okq (⟨"IntentVatsModel", "becomes", "(II)I"⟩, 25) := ⟨⟨by decide +kernel, by decide +kernel⟩, lw_t6 (List.mem_of_getElem? (i := 213) rfl), lw_t7 (List.mem_of_getElem? (i := 67) rfl), lw_t7 (List.mem_of_getElem? (i := 68) rfl)⟩
theorem lw_p45 : lw_okq (⟨"IntentVatsModel", "adds", "(I)V"⟩, 25) := ⟨⟨by decide +kernel, by decide +kernel⟩, lw_t6 (List.mem_of_getElem? (i := 213) rfl), lw_t7 (List.mem_of_getElem? (i := 107) rfl), lw_t7 (List.mem_of_getElem? (i := 108) rfl)⟩
theorem lw_p46 : lw_okq (⟨"IntentVatsModel", "sets", "(III)V"⟩, 25) := ⟨⟨by decide +kernel, by decide +kernel⟩, lw_t6 (List.mem_of_getElem? (i := 213) rfl), lw_t7 (List.mem_of_getElem? (i := 111) rfl), lw_t7 (List.mem_of_getElem? (i := 112) rfl)⟩
theorem lw_p47 : lw_okq (⟨"IntentVatsModel", "isCloth", "(I)Z"⟩, 25) := ⟨⟨by decide +kernel, by decide +kernel⟩, lw_t6 (List.mem_of_getElem? (i := 213) rfl), lw_t7 (List.mem_of_getElem? (i := 119) rfl), lw_t7 (List.mem_of_getElem? (i := 120) rfl)⟩
def lw_privs_3 : List (MethodName × Nat) := [(⟨"IntentVats", "mindsOf", "([BIII)V"⟩, 18), (⟨"IntentVats", "within", "(II)V"⟩, 18), (⟨"IntentVats", "set", "(Ljava/lang/Object;II)V"⟩, 18), (⟨"IntentVats", "itemOf", "(Ljava/lang/Object;II)I"⟩, 18), (⟨"IntentVats", "byteAt", "([BI)I"⟩, 18), (⟨"IntentVats", "shortAt", "([SI)I"⟩, 18), (⟨"IntentVats", "intAt", "([II)I"⟩, 18), (⟨"IntentVats", "longAt", "([JI)I"⟩, 18), (⟨"IntentVats", "heldOf", "(LIntentVats$Shelf;)Ljava/lang/Object;"⟩, 18), (⟨"IntentVats", "asOne", "(I)LIntentVats$Dries;"⟩, 18), (⟨"IntentVats", "ran", "(I)V"⟩, 18), (⟨"IntentVatsModel", "anew", "()V"⟩, 25), (⟨"IntentVatsModel", "becomes", "(II)I"⟩, 25), (⟨"IntentVatsModel", "adds", "(I)V"⟩, 25), (⟨"IntentVatsModel", "sets", "(III)V"⟩, 25), (⟨"IntentVatsModel", "isCloth", "(I)Z"⟩, 25)]
theorem lw_r3 : ∀ q ∈ lw_privs_3, lw_okq q := List.forall_mem_cons.mpr ⟨lw_p32, List.forall_mem_cons.mpr ⟨lw_p33, List.forall_mem_cons.mpr ⟨lw_p34, List.forall_mem_cons.mpr ⟨lw_p35, List.forall_mem_cons.mpr ⟨lw_p36, List.forall_mem_cons.mpr ⟨lw_p37, List.forall_mem_cons.mpr ⟨lw_p38, List.forall_mem_cons.mpr ⟨lw_p39, List.forall_mem_cons.mpr ⟨lw_p40, List.forall_mem_cons.mpr ⟨lw_p41, List.forall_mem_cons.mpr ⟨lw_p42, List.forall_mem_cons.mpr ⟨lw_p43, List.forall_mem_cons.mpr ⟨lw_p44, List.forall_mem_cons.mpr ⟨lw_p45, List.forall_mem_cons.mpr ⟨lw_p46, List.forall_mem_cons.mpr ⟨lw_p47, fun _ h => absurd h List.not_mem_nil⟩⟩⟩⟩⟩⟩⟩⟩⟩⟩⟩⟩⟩⟩⟩⟩
theorem lw_p48 : lw_okq (⟨"IntentVatsModel", "its", "(II)I"⟩, 25) := ⟨⟨by decide +kernel, by decide +kernel⟩, lw_t6 (List.mem_of_getElem? (i := 213) rfl), lw_t7 (List.mem_of_getElem? (i := 124) rfl), lw_t7 (List.mem_of_getElem? (i := 125) rfl)⟩
theorem lw_p49 : lw_okq (⟨"IntentVatsModel", "takesOf", "(II)I"⟩, 25) := ⟨⟨by decide +kernel, by decide +kernel⟩, lw_t6 (List.mem_of_getElem? (i := 213) rfl), lw_t7 (List.mem_of_getElem? (i := 133) rfl), lw_t7 (List.mem_of_getElem? (i := 134) rfl)⟩
theorem lw_p50 : lw_okq (⟨"IntentVatsModel", "fightsOf", "(II)I"⟩, 25) := ⟨⟨by decide +kernel, by decide +kernel⟩, lw_t6 (List.mem_of_getElem? (i := 213) rfl), lw_t7 (List.mem_of_getElem? (i := 137) rfl), lw_t7 (List.mem_of_getElem? (i := 138) rfl)⟩
theorem lw_p51 : lw_okq (⟨"IntentVatsModel", "fadesOf", "(I)I"⟩, 25) := ⟨⟨by decide +kernel, by decide +kernel⟩, lw_t6 (List.mem_of_getElem? (i := 213) rfl), lw_t7 (List.mem_of_getElem? (i := 141) rfl), lw_t7 (List.mem_of_getElem? (i := 142) rfl)⟩
theorem lw_p52 : lw_okq (⟨"IntentVatsModel", "changed", "(III)I"⟩, 25) := ⟨⟨by decide +kernel, by decide +kernel⟩, lw_t6 (List.mem_of_getElem? (i := 213) rfl), lw_t7 (List.mem_of_getElem? (i := 149) rfl), lw_t7 (List.mem_of_getElem? (i := 150) rfl)⟩
theorem lw_p53 : lw_okq (⟨"IntentVatsModel", "dips", "(II)V"⟩, 25) := ⟨⟨by decide +kernel, by decide +kernel⟩, lw_t6 (List.mem_of_getElem? (i := 213) rfl), lw_t7 (List.mem_of_getElem? (i := 169) rfl), lw_t7 (List.mem_of_getElem? (i := 170) rfl)⟩
theorem lw_p54 : lw_okq (⟨"IntentVatsModel", "isDeep", "(II)V"⟩, 25) := ⟨⟨by decide +kernel, by decide +kernel⟩, lw_t6 (List.mem_of_getElem? (i := 213) rfl), lw_t7 (List.mem_of_getElem? (i := 173) rfl), lw_t7 (List.mem_of_getElem? (i := 174) rfl)⟩
theorem lw_p55 : lw_okq (⟨"IntentVatsModel", "goes", "(I)V"⟩, 25) := ⟨⟨by decide +kernel, by decide +kernel⟩, lw_t6 (List.mem_of_getElem? (i := 213) rfl), lw_t7 (List.mem_of_getElem? (i := 187) rfl), lw_t7 (List.mem_of_getElem? (i := 188) rfl)⟩
theorem lw_p56 : lw_okq (⟨"IntentVatsModel", "aDay", "()V"⟩, 25) := ⟨⟨by decide +kernel, by decide +kernel⟩, lw_t6 (List.mem_of_getElem? (i := 213) rfl), lw_t7 (List.mem_of_getElem? (i := 191) rfl), lw_t7 (List.mem_of_getElem? (i := 192) rfl)⟩
theorem lw_p57 : lw_okq (⟨"IntentVatsModel", "depths", "()I"⟩, 25) := ⟨⟨by decide +kernel, by decide +kernel⟩, lw_t6 (List.mem_of_getElem? (i := 213) rfl), lw_t7 (List.mem_of_getElem? (i := 195) rfl), lw_t7 (List.mem_of_getElem? (i := 196) rfl)⟩
theorem lw_p58 : lw_okq (⟨"IntentVatsModel", "byDraws", "()V"⟩, 25) := ⟨⟨by decide +kernel, by decide +kernel⟩, lw_t6 (List.mem_of_getElem? (i := 213) rfl), lw_t7 (List.mem_of_getElem? (i := 207) rfl), lw_t7 (List.mem_of_getElem? (i := 208) rfl)⟩
theorem lw_p59 : lw_okq (⟨"IntentVatsModel", "draw", "()I"⟩, 25) := ⟨⟨by decide +kernel, by decide +kernel⟩, lw_t6 (List.mem_of_getElem? (i := 213) rfl), lw_t7 (List.mem_of_getElem? (i := 211) rfl), lw_t7 (List.mem_of_getElem? (i := 212) rfl)⟩
theorem lw_p60 : lw_okq (⟨"IntentVatsModel", "lends", "()V"⟩, 25) := ⟨⟨by decide +kernel, by decide +kernel⟩, lw_t6 (List.mem_of_getElem? (i := 213) rfl), lw_t7 (List.mem_of_getElem? (i := 221) rfl), lw_t7 (List.mem_of_getElem? (i := 222) rfl)⟩
theorem lw_p61 : lw_okq (⟨"IntentVatsModel", "laysBack", "()V"⟩, 25) := ⟨⟨by decide +kernel, by decide +kernel⟩, lw_t6 (List.mem_of_getElem? (i := 213) rfl), lw_t7 (List.mem_of_getElem? (i := 228) rfl), lw_t7 (List.mem_of_getElem? (i := 229) rfl)⟩
theorem lw_p62 : lw_okq (⟨"IntentVatsModel", "hungSet", "()I"⟩, 25) := ⟨⟨by decide +kernel, by decide +kernel⟩, lw_t6 (List.mem_of_getElem? (i := 213) rfl), lw_t7 (List.mem_of_getElem? (i := 236) rfl), lw_t7 (List.mem_of_getElem? (i := 237) rfl)⟩
theorem lw_p63 : lw_okq (⟨"IntentVatsModel", "aboutSet", "()I"⟩, 25) := ⟨⟨by decide +kernel, by decide +kernel⟩, lw_t6 (List.mem_of_getElem? (i := 213) rfl), lw_t8 (List.mem_of_getElem? (i := 0) rfl), lw_t8 (List.mem_of_getElem? (i := 1) rfl)⟩
def lw_privs_4 : List (MethodName × Nat) := [(⟨"IntentVatsModel", "its", "(II)I"⟩, 25), (⟨"IntentVatsModel", "takesOf", "(II)I"⟩, 25), (⟨"IntentVatsModel", "fightsOf", "(II)I"⟩, 25), (⟨"IntentVatsModel", "fadesOf", "(I)I"⟩, 25), (⟨"IntentVatsModel", "changed", "(III)I"⟩, 25), (⟨"IntentVatsModel", "dips", "(II)V"⟩, 25), (⟨"IntentVatsModel", "isDeep", "(II)V"⟩, 25), (⟨"IntentVatsModel", "goes", "(I)V"⟩, 25), (⟨"IntentVatsModel", "aDay", "()V"⟩, 25), (⟨"IntentVatsModel", "depths", "()I"⟩, 25), (⟨"IntentVatsModel", "byDraws", "()V"⟩, 25), (⟨"IntentVatsModel", "draw", "()I"⟩, 25), (⟨"IntentVatsModel", "lends", "()V"⟩, 25), (⟨"IntentVatsModel", "laysBack", "()V"⟩, 25), (⟨"IntentVatsModel", "hungSet", "()I"⟩, 25), (⟨"IntentVatsModel", "aboutSet", "()I"⟩, 25)]
theorem lw_r4 : ∀ q ∈ lw_privs_4, lw_okq q := List.forall_mem_cons.mpr ⟨lw_p48, List.forall_mem_cons.mpr ⟨lw_p49, List.forall_mem_cons.mpr ⟨lw_p50, List.forall_mem_cons.mpr ⟨lw_p51, List.forall_mem_cons.mpr ⟨lw_p52, List.forall_mem_cons.mpr ⟨lw_p53, List.forall_mem_cons.mpr ⟨lw_p54, List.forall_mem_cons.mpr ⟨lw_p55, List.forall_mem_cons.mpr ⟨lw_p56, List.forall_mem_cons.mpr ⟨lw_p57, List.forall_mem_cons.mpr ⟨lw_p58, List.forall_mem_cons.mpr ⟨lw_p59, List.forall_mem_cons.mpr ⟨lw_p60, List.forall_mem_cons.mpr ⟨lw_p61, List.forall_mem_cons.mpr ⟨lw_p62, List.forall_mem_cons.mpr ⟨lw_p63, fun _ h => absurd h List.not_mem_nil⟩⟩⟩⟩⟩⟩⟩⟩⟩⟩⟩⟩⟩⟩⟩⟩
theorem lw_p64 : lw_okq (⟨"IntentVatsModel", "oddsAmong", "()I"⟩, 25) := ⟨⟨by decide +kernel, by decide +kernel⟩, lw_t6 (List.mem_of_getElem? (i := 213) rfl), lw_t8 (List.mem_of_getElem? (i := 4) rfl), lw_t8 (List.mem_of_getElem? (i := 5) rfl)⟩
theorem lw_p65 : lw_okq (⟨"IntentVatsModel", "isAtOdds", "(II)Z"⟩, 25) := ⟨⟨by decide +kernel, by decide +kernel⟩, lw_t6 (List.mem_of_getElem? (i := 213) rfl), lw_t8 (List.mem_of_getElem? (i := 8) rfl), lw_t8 (List.mem_of_getElem? (i := 9) rfl)⟩
theorem lw_p66 : lw_okq (⟨"IntentVatsModel", "behind", "(III)I"⟩, 25) := ⟨⟨by decide +kernel, by decide +kernel⟩, lw_t6 (List.mem_of_getElem? (i := 213) rfl), lw_t8 (List.mem_of_getElem? (i := 19) rfl), lw_t8 (List.mem_of_getElem? (i := 20) rfl)⟩
theorem lw_p67 : lw_okq (⟨"IntentVatsModel", "firstAbout", "(II)I"⟩, 25) := ⟨⟨by decide +kernel, by decide +kernel⟩, lw_t6 (List.mem_of_getElem? (i := 213) rfl), lw_t8 (List.mem_of_getElem? (i := 31) rfl), lw_t8 (List.mem_of_getElem? (i := 32) rfl)⟩
theorem lw_p68 : lw_okq (⟨"IntentVatsModel", "spoiltIn", "(I)I"⟩, 25) := ⟨⟨by decide +kernel, by decide +kernel⟩, lw_t6 (List.mem_of_getElem? (i := 213) rfl), lw_t8 (List.mem_of_getElem? (i := 43) rfl), lw_t8 (List.mem_of_getElem? (i := 44) rfl)⟩
theorem lw_p69 : lw_okq (⟨"IntentVatsModel", "isThrough", "(IIII)Z"⟩, 25) := ⟨⟨by decide +kernel, by decide +kernel⟩, lw_t6 (List.mem_of_getElem? (i := 213) rfl), lw_t8 (List.mem_of_getElem? (i := 51) rfl), lw_t8 (List.mem_of_getElem? (i := 52) rfl)⟩
theorem lw_p70 : lw_okq (⟨"IntentVatsModel", "hangs", "(I)V"⟩, 25) := ⟨⟨by decide +kernel, by decide +kernel⟩, lw_t6 (List.mem_of_getElem? (i := 213) rfl), lw_t8 (List.mem_of_getElem? (i := 79) rfl), lw_t8 (List.mem_of_getElem? (i := 80) rfl)⟩
theorem lw_p71 : lw_okq (⟨"IntentVatsModel", "isSo", "(III)Z"⟩, 25) := ⟨⟨by decide +kernel, by decide +kernel⟩, lw_t6 (List.mem_of_getElem? (i := 213) rfl), lw_t8 (List.mem_of_getElem? (i := 90) rfl), lw_t8 (List.mem_of_getElem? (i := 91) rfl)⟩
theorem lw_p72 : lw_okq (⟨"IntentVatsModel", "next", "()V"⟩, 25) := ⟨⟨by decide +kernel, by decide +kernel⟩, lw_t6 (List.mem_of_getElem? (i := 213) rfl), lw_t8 (List.mem_of_getElem? (i := 116) rfl), lw_t8 (List.mem_of_getElem? (i := 117) rfl)⟩
theorem lw_p73 : lw_okq (⟨"IntentVatsModel", "isByte", "(III)Z"⟩, 25) := ⟨⟨by decide +kernel, by decide +kernel⟩, lw_t6 (List.mem_of_getElem? (i := 213) rfl), lw_t8 (List.mem_of_getElem? (i := 120) rfl), lw_t8 (List.mem_of_getElem? (i := 121) rfl)⟩
theorem lw_p74 : lw_okq (⟨"IntentVatsModel", "item", "()V"⟩, 25) := ⟨⟨by decide +kernel, by decide +kernel⟩, lw_t6 (List.mem_of_getElem? (i := 213) rfl), lw_t8 (List.mem_of_getElem? (i := 124) rfl), lw_t8 (List.mem_of_getElem? (i := 125) rfl)⟩
theorem lw_p75 : lw_okq (⟨"IntentVatsModel", "kindHere", "()I"⟩, 25) := ⟨⟨by decide +kernel, by decide +kernel⟩, lw_t6 (List.mem_of_getElem? (i := 213) rfl), lw_t8 (List.mem_of_getElem? (i := 128) rfl), lw_t8 (List.mem_of_getElem? (i := 129) rfl)⟩
theorem lw_p76 : lw_okq (⟨"IntentVatsModel", "isWord", "(Ljava/lang/String;)Z"⟩, 25) := ⟨⟨by decide +kernel, by decide +kernel⟩, lw_t6 (List.mem_of_getElem? (i := 213) rfl), lw_t8 (List.mem_of_getElem? (i := 133) rfl), lw_t8 (List.mem_of_getElem? (i := 134) rfl)⟩
theorem lw_p77 : lw_okq (⟨"IntentVatsModel", "lawHere", "()I"⟩, 25) := ⟨⟨by decide +kernel, by decide +kernel⟩, lw_t6 (List.mem_of_getElem? (i := 213) rfl), lw_t8 (List.mem_of_getElem? (i := 144) rfl), lw_t8 (List.mem_of_getElem? (i := 145) rfl)⟩
theorem lw_p78 : lw_okq (⟨"IntentVatsModel", "clothTold", "(I)V"⟩, 25) := ⟨⟨by decide +kernel, by decide +kernel⟩, lw_t6 (List.mem_of_getElem? (i := 213) rfl), lw_t8 (List.mem_of_getElem? (i := 152) rfl), lw_t8 (List.mem_of_getElem? (i := 153) rfl)⟩
theorem lw_p79 : lw_okq (⟨"IntentVatsModel", "must", "(Z)V"⟩, 25) := ⟨⟨by decide +kernel, by decide +kernel⟩, lw_t6 (List.mem_of_getElem? (i := 213) rfl), lw_t8 (List.mem_of_getElem? (i := 156) rfl), lw_t8 (List.mem_of_getElem? (i := 157) rfl)⟩
def lw_privs_5 : List (MethodName × Nat) := [(⟨"IntentVatsModel", "oddsAmong", "()I"⟩, 25), (⟨"IntentVatsModel", "isAtOdds", "(II)Z"⟩, 25), (⟨"IntentVatsModel", "behind", "(III)I"⟩, 25), (⟨"IntentVatsModel", "firstAbout", "(II)I"⟩, 25), (⟨"IntentVatsModel", "spoiltIn", "(I)I"⟩, 25), (⟨"IntentVatsModel", "isThrough", "(IIII)Z"⟩, 25), (⟨"IntentVatsModel", "hangs", "(I)V"⟩, 25), (⟨"IntentVatsModel", "isSo", "(III)Z"⟩, 25), (⟨"IntentVatsModel", "next", "()V"⟩, 25), (⟨"IntentVatsModel", "isByte", "(III)Z"⟩, 25), (⟨"IntentVatsModel", "item", "()V"⟩, 25), (⟨"IntentVatsModel", "kindHere", "()I"⟩, 25), (⟨"IntentVatsModel", "isWord", "(Ljava/lang/String;)Z"⟩, 25), (⟨"IntentVatsModel", "lawHere", "()I"⟩, 25), (⟨"IntentVatsModel", "clothTold", "(I)V"⟩, 25), (⟨"IntentVatsModel", "must", "(Z)V"⟩, 25)]
theorem lw_r5 : ∀ q ∈ lw_privs_5, lw_okq q := List.forall_mem_cons.mpr ⟨lw_p64, List.forall_mem_cons.mpr ⟨lw_p65, List.forall_mem_cons.mpr ⟨lw_p66, List.forall_mem_cons.mpr ⟨lw_p67, List.forall_mem_cons.mpr ⟨lw_p68, List.forall_mem_cons.mpr ⟨lw_p69, List.forall_mem_cons.mpr ⟨lw_p70, List.forall_mem_cons.mpr ⟨lw_p71, List.forall_mem_cons.mpr ⟨lw_p72, List.forall_mem_cons.mpr ⟨lw_p73, List.forall_mem_cons.mpr ⟨lw_p74, List.forall_mem_cons.mpr ⟨lw_p75, List.forall_mem_cons.mpr ⟨lw_p76, List.forall_mem_cons.mpr ⟨lw_p77, List.forall_mem_cons.mpr ⟨lw_p78, List.forall_mem_cons.mpr ⟨lw_p79, fun _ h => absurd h List.not_mem_nil⟩⟩⟩⟩⟩⟩⟩⟩⟩⟩⟩⟩⟩⟩⟩⟩
theorem lw_p80 : lw_okq (⟨"IntentVatsModel", "takes", "(Ljava/lang/String;)Z"⟩, 25) := ⟨⟨by decide +kernel, by decide +kernel⟩, lw_t6 (List.mem_of_getElem? (i := 213) rfl), lw_t8 (List.mem_of_getElem? (i := 161) rfl), lw_t8 (List.mem_of_getElem? (i := 162) rfl)⟩
theorem lw_p81 : lw_okq (⟨"IntentVatsModel", "number", "(II)I"⟩, 25) := ⟨⟨by decide +kernel, by decide +kernel⟩, lw_t6 (List.mem_of_getElem? (i := 213) rfl), lw_t8 (List.mem_of_getElem? (i := 165) rfl), lw_t8 (List.mem_of_getElem? (i := 166) rfl)⟩
theorem lw_p82 : lw_okq (⟨"IntentVatsModel", "figures", "()I"⟩, 25) := ⟨⟨by decide +kernel, by decide +kernel⟩, lw_t6 (List.mem_of_getElem? (i := 213) rfl), lw_t8 (List.mem_of_getElem? (i := 169) rfl), lw_t8 (List.mem_of_getElem? (i := 170) rfl)⟩
theorem lw_p83 : lw_okq (⟨"IntentVatsModel", "twoTold", "(IILjava/lang/String;I)V"⟩, 25) := ⟨⟨by decide +kernel, by decide +kernel⟩, lw_t6 (List.mem_of_getElem? (i := 213) rfl), lw_t8 (List.mem_of_getElem? (i := 177) rfl), lw_t8 (List.mem_of_getElem? (i := 178) rfl)⟩
theorem lw_p84 : lw_okq (⟨"IntentVatsModel", "lawTold", "(I)V"⟩, 25) := ⟨⟨by decide +kernel, by decide +kernel⟩, lw_t6 (List.mem_of_getElem? (i := 213) rfl), lw_t8 (List.mem_of_getElem? (i := 184) rfl), lw_t8 (List.mem_of_getElem? (i := 185) rfl)⟩
theorem lw_p85 : lw_okq (⟨"IntentVatsModel", "isCell", "(II)Z"⟩, 25) := ⟨⟨by decide +kernel, by decide +kernel⟩, lw_t6 (List.mem_of_getElem? (i := 213) rfl), lw_t8 (List.mem_of_getElem? (i := 198) rfl), lw_t8 (List.mem_of_getElem? (i := 199) rfl)⟩
theorem lw_p86 : lw_okq (⟨"IntentVatsModel", "isRight", "(II)Z"⟩, 25) := ⟨⟨by decide +kernel, by decide +kernel⟩, lw_t6 (List.mem_of_getElem? (i := 213) rfl), lw_t8 (List.mem_of_getElem? (i := 210) rfl), lw_t8 (List.mem_of_getElem? (i := 211) rfl)⟩
theorem lw_p87 : lw_okq (⟨"IntentVatsModel", "isHeld", "(I)Z"⟩, 25) := ⟨⟨by decide +kernel, by decide +kernel⟩, lw_t6 (List.mem_of_getElem? (i := 213) rfl), lw_t9 (List.mem_of_getElem? (i := 2) rfl), lw_t9 (List.mem_of_getElem? (i := 3) rfl)⟩
theorem lw_p88 : lw_okq (⟨"IntentVatsModel", "rubs", "(I)I"⟩, 25) := ⟨⟨by decide +kernel, by decide +kernel⟩, lw_t6 (List.mem_of_getElem? (i := 213) rfl), lw_t9 (List.mem_of_getElem? (i := 13) rfl), lw_t9 (List.mem_of_getElem? (i := 14) rfl)⟩
theorem lw_p89 : lw_okq (⟨"IntentVatsModel", "linenRubs", "(I)I"⟩, 25) := ⟨⟨by decide +kernel, by decide +kernel⟩, lw_t6 (List.mem_of_getElem? (i := 213) rfl), lw_t9 (List.mem_of_getElem? (i := 17) rfl), lw_t9 (List.mem_of_getElem? (i := 18) rfl)⟩
theorem lw_p90 : lw_okq (⟨"IntentVatsModel", "runs", "(I)V"⟩, 25) := ⟨⟨by decide +kernel, by decide +kernel⟩, lw_t6 (List.mem_of_getElem? (i := 213) rfl), lw_t9 (List.mem_of_getElem? (i := 21) rfl), lw_t9 (List.mem_of_getElem? (i := 22) rfl)⟩
theorem lw_p91 : lw_okq (⟨"IntentVatsModel", "plainRubs", "(I)I"⟩, 25) := ⟨⟨by decide +kernel, by decide +kernel⟩, lw_t6 (List.mem_of_getElem? (i := 213) rfl), lw_t9 (List.mem_of_getElem? (i := 25) rfl), lw_t9 (List.mem_of_getElem? (i := 26) rfl)⟩
theorem lw_p92 : lw_okq (⟨"IntentVatsModel", "steepsAct", "(I)I"⟩, 25) := ⟨⟨by decide +kernel, by decide +kernel⟩, lw_t6 (List.mem_of_getElem? (i := 213) rfl), lw_t9 (List.mem_of_getElem? (i := 29) rfl), lw_t9 (List.mem_of_getElem? (i := 30) rfl)⟩
theorem lw_p93 : lw_okq (⟨"IntentVatsModel", "plainSteeps", "(I)I"⟩, 25) := ⟨⟨by decide +kernel, by decide +kernel⟩, lw_t6 (List.mem_of_getElem? (i := 213) rfl), lw_t9 (List.mem_of_getElem? (i := 33) rfl), lw_t9 (List.mem_of_getElem? (i := 34) rfl)⟩
theorem lw_p94 : lw_okq (⟨"IntentVatsModel", "parts", "(I)I"⟩, 25) := ⟨⟨by decide +kernel, by decide +kernel⟩, lw_t6 (List.mem_of_getElem? (i := 213) rfl), lw_t9 (List.mem_of_getElem? (i := 37) rfl), lw_t9 (List.mem_of_getElem? (i := 38) rfl)⟩
theorem lw_p95 : lw_okq (⟨"IntentVatsModel", "plainParts", "(I)I"⟩, 25) := ⟨⟨by decide +kernel, by decide +kernel⟩, lw_t6 (List.mem_of_getElem? (i := 213) rfl), lw_t9 (List.mem_of_getElem? (i := 41) rfl), lw_t9 (List.mem_of_getElem? (i := 42) rfl)⟩
def lw_privs_6 : List (MethodName × Nat) := [(⟨"IntentVatsModel", "takes", "(Ljava/lang/String;)Z"⟩, 25), (⟨"IntentVatsModel", "number", "(II)I"⟩, 25), (⟨"IntentVatsModel", "figures", "()I"⟩, 25), (⟨"IntentVatsModel", "twoTold", "(IILjava/lang/String;I)V"⟩, 25), (⟨"IntentVatsModel", "lawTold", "(I)V"⟩, 25), (⟨"IntentVatsModel", "isCell", "(II)Z"⟩, 25), (⟨"IntentVatsModel", "isRight", "(II)Z"⟩, 25), (⟨"IntentVatsModel", "isHeld", "(I)Z"⟩, 25), (⟨"IntentVatsModel", "rubs", "(I)I"⟩, 25), (⟨"IntentVatsModel", "linenRubs", "(I)I"⟩, 25), (⟨"IntentVatsModel", "runs", "(I)V"⟩, 25), (⟨"IntentVatsModel", "plainRubs", "(I)I"⟩, 25), (⟨"IntentVatsModel", "steepsAct", "(I)I"⟩, 25), (⟨"IntentVatsModel", "plainSteeps", "(I)I"⟩, 25), (⟨"IntentVatsModel", "parts", "(I)I"⟩, 25), (⟨"IntentVatsModel", "plainParts", "(I)I"⟩, 25)]
theorem lw_r6 : ∀ q ∈ lw_privs_6, lw_okq q := List.forall_mem_cons.mpr ⟨lw_p80, List.forall_mem_cons.mpr ⟨lw_p81, List.forall_mem_cons.mpr ⟨lw_p82, List.forall_mem_cons.mpr ⟨lw_p83, List.forall_mem_cons.mpr ⟨lw_p84, List.forall_mem_cons.mpr ⟨lw_p85, List.forall_mem_cons.mpr ⟨lw_p86, List.forall_mem_cons.mpr ⟨lw_p87, List.forall_mem_cons.mpr ⟨lw_p88, List.forall_mem_cons.mpr ⟨lw_p89, List.forall_mem_cons.mpr ⟨lw_p90, List.forall_mem_cons.mpr ⟨lw_p91, List.forall_mem_cons.mpr ⟨lw_p92, List.forall_mem_cons.mpr ⟨lw_p93, List.forall_mem_cons.mpr ⟨lw_p94, List.forall_mem_cons.mpr ⟨lw_p95, fun _ h => absurd h List.not_mem_nil⟩⟩⟩⟩⟩⟩⟩⟩⟩⟩⟩⟩⟩⟩⟩⟩
theorem lw_p96 : lw_okq (⟨"IntentVatsModel", "driesAct", "(I)I"⟩, 25) := ⟨⟨by decide +kernel, by decide +kernel⟩, lw_t6 (List.mem_of_getElem? (i := 213) rfl), lw_t9 (List.mem_of_getElem? (i := 45) rfl), lw_t9 (List.mem_of_getElem? (i := 46) rfl)⟩
theorem lw_p97 : lw_okq (⟨"IntentVatsModel", "plainDries", "(I)I"⟩, 25) := ⟨⟨by decide +kernel, by decide +kernel⟩, lw_t6 (List.mem_of_getElem? (i := 213) rfl), lw_t9 (List.mem_of_getElem? (i := 49) rfl), lw_t9 (List.mem_of_getElem? (i := 50) rfl)⟩
theorem lw_p98 : lw_okq (⟨"IntentVatsModel", "purposesAbout", "()I"⟩, 25) := ⟨⟨by decide +kernel, by decide +kernel⟩, lw_t6 (List.mem_of_getElem? (i := 213) rfl), lw_t9 (List.mem_of_getElem? (i := 61) rfl), lw_t9 (List.mem_of_getElem? (i := 62) rfl)⟩
def lw_privs_7 : List (MethodName × Nat) := [(⟨"IntentVatsModel", "driesAct", "(I)I"⟩, 25), (⟨"IntentVatsModel", "plainDries", "(I)I"⟩, 25), (⟨"IntentVatsModel", "purposesAbout", "()I"⟩, 25)]
theorem lw_r7 : ∀ q ∈ lw_privs_7, lw_okq q := List.forall_mem_cons.mpr ⟨lw_p96, List.forall_mem_cons.mpr ⟨lw_p97, List.forall_mem_cons.mpr ⟨lw_p98, fun _ h => absurd h List.not_mem_nil⟩⟩⟩
def lw_privs : List (MethodName × Nat) := lw_privs_1 ++ (lw_privs_2 ++ (lw_privs_3 ++ (lw_privs_4 ++ (lw_privs_5 ++ (lw_privs_6 ++ (lw_privs_7))))))
def lw_tbl : List Cond := k2_sels lw_privs ++ tables_1
theorem lw_privs_ok : ∀ q ∈ lw_privs, lw_okq q := by
  show ∀ q ∈ lw_privs_1 ++ (lw_privs_2 ++ (lw_privs_3 ++ (lw_privs_4 ++ (lw_privs_5 ++ (lw_privs_6 ++ (lw_privs_7)))))), lw_okq q
  exact List.forall_mem_append.mpr ⟨lw_r1, List.forall_mem_append.mpr ⟨lw_r2, List.forall_mem_append.mpr ⟨lw_r3, List.forall_mem_append.mpr ⟨lw_r4, List.forall_mem_append.mpr ⟨lw_r5, List.forall_mem_append.mpr ⟨lw_r6, lw_r7⟩⟩⟩⟩⟩⟩
-- ===== ONE list of words for every method: the tables' words that hold all through a run =====
def lw_all : List Cond := lw_tbl.filter goodWord
/-- a word of the tables by its place: claim/WORDS.tsv -/
theorem lw_w {w : Cond} (i : Nat) (h : lw_tbl[i]? = some w) (g : goodWord w = true) : w ∈ lw_all := List.mem_filter.mpr ⟨List.mem_of_getElem? h, g⟩
theorem lw_all_tbl {w : Cond} (h : w ∈ lw_all) : w ∈ lw_tbl := (List.mem_filter.mp h).1
theorem lw_self : GoodIn lw_all lw_all := fun w h => ⟨h, good_of_word (List.mem_filter.mp h).2⟩
/-- a class's field words, by their places -/
theorem lw_in (ws : List Cond) (ps : List Nat) (hp : ws = ps.filterMap (fun i => lw_tbl[i]?)) (hg : ws.all goodWord = true) : ∀ w ∈ ws, w ∈ lw_all := by
  intro w h
  have h1 := List.all_eq_true.mp hg w h
  rw [hp] at h
  obtain ⟨i, -, hi⟩ := List.mem_filterMap.mp h
  exact lw_w i hi h1
/-- the words of a contract for the method y with code b, L locals, answer r -/
abbrev ws_ (y : MethodName) (b : ByteArray) (L : Nat) (r : Option FieldType) : List Cond := Cond.code y b L r :: lw_all
theorem lw_meth {y : MethodName} {b : ByteArray} {L : Nat} {r : Option FieldType} (h : Cond.code y b L r ∈ lw_all) : GoodIn lw_all (ws_ y b L r) := by
  intro w hw
  rcases List.mem_cons.mp hw with e | e
  · rw [e]
    exact lw_self _ h
  · exact lw_self _ e
theorem lw_app {a c : List Cond} (ha : ∀ w ∈ a, w ∈ lw_all) (hc : GoodIn lw_all c) : GoodIn lw_all (a ++ c) := by
  intro w hw
  rcases List.mem_append.mp hw with e | e
  · exact lw_self w (ha w e)
  · exact hc w e
/-- what a call through an object asks: cwV n hts (lw_V ..) -/
theorem lw_V {own : String} {idx : Nat} {C : String} {y : MethodName} {b : ByteArray} {L : Nat} {r : Option FieldType} (h1 : Cond.methodLink own idx y ∈ lw_all) (h2 : Cond.instanceMethod y ∈ lw_all) (h3 : Cond.selects C y y ∈ lw_all) (h4 : Cond.initialized C ∈ lw_all) (h5 : Cond.code y b L r ∈ lw_all) : GoodIn lw_all (wsV own idx C y (ws_ y b L r)) := by
  refine lw_app ?_ (lw_meth h5)
  intro w hw
  simp only [List.mem_cons, List.not_mem_nil, or_false] at hw
  rcases hw with e | e | e | e
  · rw [e]; exact h1
  · rw [e]; exact h2
  · rw [e]; exact h3
  · rw [e]; exact h4
/-- what a static call asks: va_cwS n hts (lw_S ..) -/
theorem lw_S {own : String} {idx : Nat} {y : MethodName} {b : ByteArray} {L : Nat} {r : Option FieldType} (h1 : Cond.methodLink own idx y ∈ lw_all) (h2 : Cond.static y ∈ lw_all) (h3 : Cond.initialized y.cls ∈ lw_all) (h4 : Cond.code y b L r ∈ lw_all) : GoodIn lw_all (va_wsS own idx y (ws_ y b L r)) := by
  refine lw_app ?_ (lw_meth h4)
  intro w hw
  simp only [List.mem_cons, List.not_mem_nil, or_false] at hw
  rcases hw with e | e | e
  · rw [e]; exact h1
  · rw [e]; exact h2
  · rw [e]; exact h3
/-- the words of a contract for a method WITH HANDLERS (hh: its table) -/
abbrev wsW_ (y : MethodName) (b : ByteArray) (L : Nat) (r : Option FieldType) (hh : List (Nat × Nat × Nat × Nat)) : List Cond := Cond.codeWith y b L r hh :: lw_all
theorem lw_methW {y : MethodName} {b : ByteArray} {L : Nat} {r : Option FieldType} {hh : List (Nat × Nat × Nat × Nat)} (h : Cond.codeWith y b L r hh ∈ lw_all) : GoodIn lw_all (wsW_ y b L r hh) := by
  intro w hw
  rcases List.mem_cons.mp hw with e | e
  · rw [e]
    exact lw_self _ h
  · exact lw_self _ e
/-- any list of words by their places (lw_in), good -/
theorem lw_good {ws : List Cond} (h : ∀ w ∈ ws, w ∈ lw_all) : GoodIn lw_all ws := fun w hw => lw_self w (h w hw)
/-- what a call of a method with handlers asks: vx_cwVW n hts (lw_VW ..), vx_cwSW n hts (lw_SW ..) -/
theorem lw_VW {own : String} {idx : Nat} {C : String} {y : MethodName} {b : ByteArray} {L : Nat} {r : Option FieldType} {hh : List (Nat × Nat × Nat × Nat)} (h1 : Cond.methodLink own idx y ∈ lw_all) (h2 : Cond.instanceMethod y ∈ lw_all) (h3 : Cond.selects C y y ∈ lw_all) (h4 : Cond.initialized C ∈ lw_all) (h5 : Cond.codeWith y b L r hh ∈ lw_all) : GoodIn lw_all (wsV own idx C y (wsW_ y b L r hh)) := by
  refine lw_app ?_ (lw_methW h5)
  intro w hw
  simp only [List.mem_cons, List.not_mem_nil, or_false] at hw
  rcases hw with e | e | e | e
  · rw [e]; exact h1
  · rw [e]; exact h2
  · rw [e]; exact h3
  · rw [e]; exact h4
theorem lw_SW {own : String} {idx : Nat} {y : MethodName} {b : ByteArray} {L : Nat} {r : Option FieldType} {hh : List (Nat × Nat × Nat × Nat)} (h1 : Cond.methodLink own idx y ∈ lw_all) (h2 : Cond.static y ∈ lw_all) (h3 : Cond.initialized y.cls ∈ lw_all) (h4 : Cond.codeWith y b L r hh ∈ lw_all) : GoodIn lw_all (va_wsS own idx y (wsW_ y b L r hh)) := by
  refine lw_app ?_ (lw_methW h4)
  intro w hw
  simp only [List.mem_cons, List.not_mem_nil, or_false] at hw
  rcases hw with e | e | e
  · rw [e]; exact h1
  · rw [e]; exact h2
  · rw [e]; exact h3
/-- a word by its place in its run of the tables -/
theorem lw_at {r : List Cond} (hr : ∀ w ∈ r, w ∈ lw_tbl) {w : Cond} (i : Nat) (h : r[i]? = some w) : w ∈ lw_tbl := hr w (List.mem_of_getElem? h)
theorem lw_g {w : Cond} (h : w ∈ lw_tbl) (g : goodWord w = true) : w ∈ lw_all := List.mem_filter.mpr ⟨h, g⟩
theorem lw_ms : ∀ w ∈ k2_sels lw_privs, w ∈ lw_tbl := fun w h => show w ∈ k2_sels lw_privs ++ tables_1 from List.mem_append_left _ h
theorem lw_m1 : ∀ w ∈ tables_1_1, w ∈ lw_tbl := fun w h => show w ∈ k2_sels lw_privs ++ tables_1 from List.mem_append_right (k2_sels lw_privs) (show w ∈ tables_1 from List.mem_append_left _ h)
theorem lw_m2 : ∀ w ∈ tables_1_2, w ∈ lw_tbl := fun w h => show w ∈ k2_sels lw_privs ++ tables_1 from List.mem_append_right (k2_sels lw_privs) (show w ∈ tables_1 from List.mem_append_right _ (List.mem_append_left _ h))
theorem lw_m3 : ∀ w ∈ tables_1_3, w ∈ lw_tbl := fun w h => show w ∈ k2_sels lw_privs ++ tables_1 from List.mem_append_right (k2_sels lw_privs) (show w ∈ tables_1 from List.mem_append_right _ (List.mem_append_right _ (List.mem_append_left _ h)))
theorem lw_m4 : ∀ w ∈ tables_1_4, w ∈ lw_tbl := fun w h => show w ∈ k2_sels lw_privs ++ tables_1 from List.mem_append_right (k2_sels lw_privs) (show w ∈ tables_1 from List.mem_append_right _ (List.mem_append_right _ (List.mem_append_right _ (List.mem_append_left _ h))))
theorem lw_m5 : ∀ w ∈ tables_1_5, w ∈ lw_tbl := fun w h => show w ∈ k2_sels lw_privs ++ tables_1 from List.mem_append_right (k2_sels lw_privs) (show w ∈ tables_1 from List.mem_append_right _ (List.mem_append_right _ (List.mem_append_right _ (List.mem_append_right _ (List.mem_append_left _ h)))))
theorem lw_m6 : ∀ w ∈ tables_1_6, w ∈ lw_tbl := fun w h => show w ∈ k2_sels lw_privs ++ tables_1 from List.mem_append_right (k2_sels lw_privs) (show w ∈ tables_1 from List.mem_append_right _ (List.mem_append_right _ (List.mem_append_right _ (List.mem_append_right _ (List.mem_append_right _ (List.mem_append_left _ h))))))
theorem lw_m7 : ∀ w ∈ tables_1_7, w ∈ lw_tbl := fun w h => show w ∈ k2_sels lw_privs ++ tables_1 from List.mem_append_right (k2_sels lw_privs) (show w ∈ tables_1 from List.mem_append_right _ (List.mem_append_right _ (List.mem_append_right _ (List.mem_append_right _ (List.mem_append_right _ (List.mem_append_right _ (List.mem_append_left _ h)))))))
theorem lw_m8 : ∀ w ∈ tables_1_8, w ∈ lw_tbl := fun w h => show w ∈ k2_sels lw_privs ++ tables_1 from List.mem_append_right (k2_sels lw_privs) (show w ∈ tables_1 from List.mem_append_right _ (List.mem_append_right _ (List.mem_append_right _ (List.mem_append_right _ (List.mem_append_right _ (List.mem_append_right _ (List.mem_append_right _ (List.mem_append_left _ h))))))))
theorem lw_m9 : ∀ w ∈ tables_1_9, w ∈ lw_tbl := fun w h => show w ∈ k2_sels lw_privs ++ tables_1 from List.mem_append_right (k2_sels lw_privs) (show w ∈ tables_1 from List.mem_append_right _ (List.mem_append_right _ (List.mem_append_right _ (List.mem_append_right _ (List.mem_append_right _ (List.mem_append_right _ (List.mem_append_right _ (List.mem_append_right _ h))))))))
theorem qs0 : (Cond.selects "java/lang/Throwable" ⟨"java/lang/Throwable", "fillInStackTrace", "(I)Ljava/lang/Throwable;"⟩ ⟨"java/lang/Throwable", "fillInStackTrace", "(I)Ljava/lang/Throwable;"⟩) ∈ lw_all := lw_g (lw_at lw_ms 0 rfl) rfl
theorem qs1 : (Cond.selects "IntentVats$Reader" ⟨"IntentVats$Reader", "begins", "([BI)V"⟩ ⟨"IntentVats$Reader", "begins", "([BI)V"⟩) ∈ lw_all := lw_g (lw_at lw_ms 1 rfl) rfl
theorem qs2 : (Cond.selects "IntentVats$Reader" ⟨"IntentVats$Reader", "next", "()V"⟩ ⟨"IntentVats$Reader", "next", "()V"⟩) ∈ lw_all := lw_g (lw_at lw_ms 2 rfl) rfl
theorem qs3 : (Cond.selects "IntentVats$Reader" ⟨"IntentVats$Reader", "here", "()I"⟩ ⟨"IntentVats$Reader", "here", "()I"⟩) ∈ lw_all := lw_g (lw_at lw_ms 3 rfl) rfl
theorem qs4 : (Cond.selects "IntentVats$Reader" ⟨"IntentVats$Reader", "item", "()V"⟩ ⟨"IntentVats$Reader", "item", "()V"⟩) ∈ lw_all := lw_g (lw_at lw_ms 4 rfl) rfl
theorem qs5 : (Cond.selects "IntentVats$Reader" ⟨"IntentVats$Reader", "isWord", "(Ljava/lang/String;)Z"⟩ ⟨"IntentVats$Reader", "isWord", "(Ljava/lang/String;)Z"⟩) ∈ lw_all := lw_g (lw_at lw_ms 5 rfl) rfl
theorem qs6 : (Cond.selects "IntentVats$Reader" ⟨"IntentVats$Reader", "cloth", "(I)V"⟩ ⟨"IntentVats$Reader", "cloth", "(I)V"⟩) ∈ lw_all := lw_g (lw_at lw_ms 6 rfl) rfl
theorem qs7 : (Cond.selects "IntentVats$Reader" ⟨"IntentVats$Reader", "need", "(Z)V"⟩ ⟨"IntentVats$Reader", "need", "(Z)V"⟩) ∈ lw_all := lw_g (lw_at lw_ms 7 rfl) rfl
theorem qs8 : (Cond.selects "IntentVats$Reader" ⟨"IntentVats$Reader", "may", "(Ljava/lang/String;)Z"⟩ ⟨"IntentVats$Reader", "may", "(Ljava/lang/String;)Z"⟩) ∈ lw_all := lw_g (lw_at lw_ms 8 rfl) rfl
theorem qs9 : (Cond.selects "IntentVats$Reader" ⟨"IntentVats$Reader", "number", "(II)I"⟩ ⟨"IntentVats$Reader", "number", "(II)I"⟩) ∈ lw_all := lw_g (lw_at lw_ms 9 rfl) rfl
theorem qs10 : (Cond.selects "IntentVats$Reader" ⟨"IntentVats$Reader", "seen", "(II)I"⟩ ⟨"IntentVats$Reader", "seen", "(II)I"⟩) ∈ lw_all := lw_g (lw_at lw_ms 10 rfl) rfl
theorem qs11 : (Cond.selects "IntentVats$Reader" ⟨"IntentVats$Reader", "vat", "()V"⟩ ⟨"IntentVats$Reader", "vat", "()V"⟩) ∈ lw_all := lw_g (lw_at lw_ms 11 rfl) rfl
theorem qs12 : (Cond.selects "IntentVats$Reader" ⟨"IntentVats$Reader", "must", "(Ljava/lang/String;)V"⟩ ⟨"IntentVats$Reader", "must", "(Ljava/lang/String;)V"⟩) ∈ lw_all := lw_g (lw_at lw_ms 12 rfl) rfl
theorem qs13 : (Cond.selects "IntentVats$Reader" ⟨"IntentVats$Reader", "strong", "()V"⟩ ⟨"IntentVats$Reader", "strong", "()V"⟩) ∈ lw_all := lw_g (lw_at lw_ms 13 rfl) rfl
theorem qs14 : (Cond.selects "IntentVats$Reader" ⟨"IntentVats$Reader", "day", "()V"⟩ ⟨"IntentVats$Reader", "day", "()V"⟩) ∈ lw_all := lw_g (lw_at lw_ms 14 rfl) rfl
theorem qs15 : (Cond.selects "IntentVats" ⟨"IntentVats", "isCloth", "(I)Z"⟩ ⟨"IntentVats", "isCloth", "(I)Z"⟩) ∈ lw_all := lw_g (lw_at lw_ms 15 rfl) rfl
theorem qs16 : (Cond.selects "IntentVats" ⟨"IntentVats", "wayOf", "(LIntentVats$Mill;I)LIntentVats$Plain;"⟩ ⟨"IntentVats", "wayOf", "(LIntentVats$Mill;I)LIntentVats$Plain;"⟩) ∈ lw_all := lw_g (lw_at lw_ms 16 rfl) rfl
theorem qs17 : (Cond.selects "IntentVats" ⟨"IntentVats", "dips", "(LIntentVats$Mill;II)V"⟩ ⟨"IntentVats", "dips", "(LIntentVats$Mill;II)V"⟩) ∈ lw_all := lw_g (lw_at lw_ms 17 rfl) rfl
theorem qs18 : (Cond.selects "IntentVats" ⟨"IntentVats", "daysGo", "(LIntentVats$Mill;I)V"⟩ ⟨"IntentVats", "daysGo", "(LIntentVats$Mill;I)V"⟩) ∈ lw_all := lw_g (lw_at lw_ms 18 rfl) rfl
theorem qs19 : (Cond.selects "IntentVats" ⟨"IntentVats", "dayGoes", "(LIntentVats$Mill;)V"⟩ ⟨"IntentVats", "dayGoes", "(LIntentVats$Mill;)V"⟩) ∈ lw_all := lw_g (lw_at lw_ms 19 rfl) rfl
theorem qs20 : (Cond.selects "IntentVats" ⟨"IntentVats", "dayByDraws", "(LIntentVats$Mill;)V"⟩ ⟨"IntentVats", "dayByDraws", "(LIntentVats$Mill;)V"⟩) ∈ lw_all := lw_g (lw_at lw_ms 20 rfl) rfl
theorem qs21 : (Cond.selects "IntentVats" ⟨"IntentVats", "isAsked", "(III)Z"⟩ ⟨"IntentVats", "isAsked", "(III)Z"⟩) ∈ lw_all := lw_g (lw_at lw_ms 21 rfl) rfl
theorem qs22 : (Cond.selects "IntentVats" ⟨"IntentVats", "firstAbout", "(II)I"⟩ ⟨"IntentVats", "firstAbout", "(II)I"⟩) ∈ lw_all := lw_g (lw_at lw_ms 22 rfl) rfl
theorem qs23 : (Cond.selects "IntentVats" ⟨"IntentVats", "spoiltTried", "(I)I"⟩ ⟨"IntentVats", "spoiltTried", "(I)I"⟩) ∈ lw_all := lw_g (lw_at lw_ms 23 rfl) rfl
theorem qs24 : (Cond.selects "IntentVats" ⟨"IntentVats", "dippedThrough", "(III)I"⟩ ⟨"IntentVats", "dippedThrough", "(III)I"⟩) ∈ lw_all := lw_g (lw_at lw_ms 24 rfl) rfl
theorem qs25 : (Cond.selects "IntentVats" ⟨"IntentVats", "depthsTried", "(I)I"⟩ ⟨"IntentVats", "depthsTried", "(I)I"⟩) ∈ lw_all := lw_g (lw_at lw_ms 25 rfl) rfl
theorem qs26 : (Cond.selects "IntentVats" ⟨"IntentVats", "there", "(Ljava/lang/Object;)Ljava/lang/Object;"⟩ ⟨"IntentVats", "there", "(Ljava/lang/Object;)Ljava/lang/Object;"⟩) ∈ lw_all := lw_g (lw_at lw_ms 26 rfl) rfl
theorem qs27 : (Cond.selects "IntentVats" ⟨"IntentVats", "fitsOf", "(Ljava/lang/Object;IZ)I"⟩ ⟨"IntentVats", "fitsOf", "(Ljava/lang/Object;IZ)I"⟩) ∈ lw_all := lw_g (lw_at lw_ms 27 rfl) rfl
theorem qs28 : (Cond.selects "IntentVats" ⟨"IntentVats", "isTold", "(Ljava/lang/Object;I)Z"⟩ ⟨"IntentVats", "isTold", "(Ljava/lang/Object;I)Z"⟩) ∈ lw_all := lw_g (lw_at lw_ms 28 rfl) rfl
theorem qs29 : (Cond.selects "IntentVats" ⟨"IntentVats", "isRow", "(II)Z"⟩ ⟨"IntentVats", "isRow", "(II)Z"⟩) ∈ lw_all := lw_g (lw_at lw_ms 29 rfl) rfl
theorem qs30 : (Cond.selects "IntentVats" ⟨"IntentVats", "rowAt", "(I)LIntentVats$Row;"⟩ ⟨"IntentVats", "rowAt", "(I)LIntentVats$Row;"⟩) ∈ lw_all := lw_g (lw_at lw_ms 30 rfl) rfl
theorem qs31 : (Cond.selects "IntentVats" ⟨"IntentVats", "goesAs", "(LIntentVats$Mill;I[I)V"⟩ ⟨"IntentVats", "goesAs", "(LIntentVats$Mill;I[I)V"⟩) ∈ lw_all := lw_g (lw_at lw_ms 31 rfl) rfl
theorem qs32 : (Cond.selects "IntentVats" ⟨"IntentVats", "mindsOf", "([BIII)V"⟩ ⟨"IntentVats", "mindsOf", "([BIII)V"⟩) ∈ lw_all := lw_g (lw_at lw_ms 32 rfl) rfl
theorem qs33 : (Cond.selects "IntentVats" ⟨"IntentVats", "within", "(II)V"⟩ ⟨"IntentVats", "within", "(II)V"⟩) ∈ lw_all := lw_g (lw_at lw_ms 33 rfl) rfl
theorem qs34 : (Cond.selects "IntentVats" ⟨"IntentVats", "set", "(Ljava/lang/Object;II)V"⟩ ⟨"IntentVats", "set", "(Ljava/lang/Object;II)V"⟩) ∈ lw_all := lw_g (lw_at lw_ms 34 rfl) rfl
theorem qs35 : (Cond.selects "IntentVats" ⟨"IntentVats", "itemOf", "(Ljava/lang/Object;II)I"⟩ ⟨"IntentVats", "itemOf", "(Ljava/lang/Object;II)I"⟩) ∈ lw_all := lw_g (lw_at lw_ms 35 rfl) rfl
theorem qs36 : (Cond.selects "IntentVats" ⟨"IntentVats", "byteAt", "([BI)I"⟩ ⟨"IntentVats", "byteAt", "([BI)I"⟩) ∈ lw_all := lw_g (lw_at lw_ms 36 rfl) rfl
theorem qs37 : (Cond.selects "IntentVats" ⟨"IntentVats", "shortAt", "([SI)I"⟩ ⟨"IntentVats", "shortAt", "([SI)I"⟩) ∈ lw_all := lw_g (lw_at lw_ms 37 rfl) rfl
theorem qs38 : (Cond.selects "IntentVats" ⟨"IntentVats", "intAt", "([II)I"⟩ ⟨"IntentVats", "intAt", "([II)I"⟩) ∈ lw_all := lw_g (lw_at lw_ms 38 rfl) rfl
theorem qs39 : (Cond.selects "IntentVats" ⟨"IntentVats", "longAt", "([JI)I"⟩ ⟨"IntentVats", "longAt", "([JI)I"⟩) ∈ lw_all := lw_g (lw_at lw_ms 39 rfl) rfl
theorem qs40 : (Cond.selects "IntentVats" ⟨"IntentVats", "heldOf", "(LIntentVats$Shelf;)Ljava/lang/Object;"⟩ ⟨"IntentVats", "heldOf", "(LIntentVats$Shelf;)Ljava/lang/Object;"⟩) ∈ lw_all := lw_g (lw_at lw_ms 40 rfl) rfl
theorem qs41 : (Cond.selects "IntentVats" ⟨"IntentVats", "asOne", "(I)LIntentVats$Dries;"⟩ ⟨"IntentVats", "asOne", "(I)LIntentVats$Dries;"⟩) ∈ lw_all := lw_g (lw_at lw_ms 41 rfl) rfl
theorem qs42 : (Cond.selects "IntentVats" ⟨"IntentVats", "ran", "(I)V"⟩ ⟨"IntentVats", "ran", "(I)V"⟩) ∈ lw_all := lw_g (lw_at lw_ms 42 rfl) rfl
theorem qs43 : (Cond.selects "IntentVatsModel" ⟨"IntentVatsModel", "anew", "()V"⟩ ⟨"IntentVatsModel", "anew", "()V"⟩) ∈ lw_all := lw_g (lw_at lw_ms 43 rfl) rfl
theorem qs44 : (Cond.selects "IntentVatsModel" ⟨"IntentVatsModel", "becomes", "(II)I"⟩ ⟨"IntentVatsModel", "becomes", "(II)I"⟩) ∈ lw_all := lw_g (lw_at lw_ms 44 rfl) rfl
theorem qs45 : (Cond.selects "IntentVatsModel" ⟨"IntentVatsModel", "adds", "(I)V"⟩ ⟨"IntentVatsModel", "adds", "(I)V"⟩) ∈ lw_all := lw_g (lw_at lw_ms 45 rfl) rfl
theorem qs46 : (Cond.selects "IntentVatsModel" ⟨"IntentVatsModel", "sets", "(III)V"⟩ ⟨"IntentVatsModel", "sets", "(III)V"⟩) ∈ lw_all := lw_g (lw_at lw_ms 46 rfl) rfl
theorem qs47 : (Cond.selects "IntentVatsModel" ⟨"IntentVatsModel", "isCloth", "(I)Z"⟩ ⟨"IntentVatsModel", "isCloth", "(I)Z"⟩) ∈ lw_all := lw_g (lw_at lw_ms 47 rfl) rfl
theorem qs48 : (Cond.selects "IntentVatsModel" ⟨"IntentVatsModel", "its", "(II)I"⟩ ⟨"IntentVatsModel", "its", "(II)I"⟩) ∈ lw_all := lw_g (lw_at lw_ms 48 rfl) rfl
theorem qs49 : (Cond.selects "IntentVatsModel" ⟨"IntentVatsModel", "takesOf", "(II)I"⟩ ⟨"IntentVatsModel", "takesOf", "(II)I"⟩) ∈ lw_all := lw_g (lw_at lw_ms 49 rfl) rfl
theorem qs50 : (Cond.selects "IntentVatsModel" ⟨"IntentVatsModel", "fightsOf", "(II)I"⟩ ⟨"IntentVatsModel", "fightsOf", "(II)I"⟩) ∈ lw_all := lw_g (lw_at lw_ms 50 rfl) rfl
theorem qs51 : (Cond.selects "IntentVatsModel" ⟨"IntentVatsModel", "fadesOf", "(I)I"⟩ ⟨"IntentVatsModel", "fadesOf", "(I)I"⟩) ∈ lw_all := lw_g (lw_at lw_ms 51 rfl) rfl
theorem qs52 : (Cond.selects "IntentVatsModel" ⟨"IntentVatsModel", "changed", "(III)I"⟩ ⟨"IntentVatsModel", "changed", "(III)I"⟩) ∈ lw_all := lw_g (lw_at lw_ms 52 rfl) rfl
theorem qs53 : (Cond.selects "IntentVatsModel" ⟨"IntentVatsModel", "dips", "(II)V"⟩ ⟨"IntentVatsModel", "dips", "(II)V"⟩) ∈ lw_all := lw_g (lw_at lw_ms 53 rfl) rfl
theorem qs54 : (Cond.selects "IntentVatsModel" ⟨"IntentVatsModel", "isDeep", "(II)V"⟩ ⟨"IntentVatsModel", "isDeep", "(II)V"⟩) ∈ lw_all := lw_g (lw_at lw_ms 54 rfl) rfl
theorem qs55 : (Cond.selects "IntentVatsModel" ⟨"IntentVatsModel", "goes", "(I)V"⟩ ⟨"IntentVatsModel", "goes", "(I)V"⟩) ∈ lw_all := lw_g (lw_at lw_ms 55 rfl) rfl
theorem qs56 : (Cond.selects "IntentVatsModel" ⟨"IntentVatsModel", "aDay", "()V"⟩ ⟨"IntentVatsModel", "aDay", "()V"⟩) ∈ lw_all := lw_g (lw_at lw_ms 56 rfl) rfl
theorem qs57 : (Cond.selects "IntentVatsModel" ⟨"IntentVatsModel", "depths", "()I"⟩ ⟨"IntentVatsModel", "depths", "()I"⟩) ∈ lw_all := lw_g (lw_at lw_ms 57 rfl) rfl
theorem qs58 : (Cond.selects "IntentVatsModel" ⟨"IntentVatsModel", "byDraws", "()V"⟩ ⟨"IntentVatsModel", "byDraws", "()V"⟩) ∈ lw_all := lw_g (lw_at lw_ms 58 rfl) rfl
theorem qs59 : (Cond.selects "IntentVatsModel" ⟨"IntentVatsModel", "draw", "()I"⟩ ⟨"IntentVatsModel", "draw", "()I"⟩) ∈ lw_all := lw_g (lw_at lw_ms 59 rfl) rfl
theorem qs60 : (Cond.selects "IntentVatsModel" ⟨"IntentVatsModel", "lends", "()V"⟩ ⟨"IntentVatsModel", "lends", "()V"⟩) ∈ lw_all := lw_g (lw_at lw_ms 60 rfl) rfl
theorem qs61 : (Cond.selects "IntentVatsModel" ⟨"IntentVatsModel", "laysBack", "()V"⟩ ⟨"IntentVatsModel", "laysBack", "()V"⟩) ∈ lw_all := lw_g (lw_at lw_ms 61 rfl) rfl
theorem qs62 : (Cond.selects "IntentVatsModel" ⟨"IntentVatsModel", "hungSet", "()I"⟩ ⟨"IntentVatsModel", "hungSet", "()I"⟩) ∈ lw_all := lw_g (lw_at lw_ms 62 rfl) rfl
theorem qs63 : (Cond.selects "IntentVatsModel" ⟨"IntentVatsModel", "aboutSet", "()I"⟩ ⟨"IntentVatsModel", "aboutSet", "()I"⟩) ∈ lw_all := lw_g (lw_at lw_ms 63 rfl) rfl
theorem qs64 : (Cond.selects "IntentVatsModel" ⟨"IntentVatsModel", "oddsAmong", "()I"⟩ ⟨"IntentVatsModel", "oddsAmong", "()I"⟩) ∈ lw_all := lw_g (lw_at lw_ms 64 rfl) rfl
theorem qs65 : (Cond.selects "IntentVatsModel" ⟨"IntentVatsModel", "isAtOdds", "(II)Z"⟩ ⟨"IntentVatsModel", "isAtOdds", "(II)Z"⟩) ∈ lw_all := lw_g (lw_at lw_ms 65 rfl) rfl
theorem qs66 : (Cond.selects "IntentVatsModel" ⟨"IntentVatsModel", "behind", "(III)I"⟩ ⟨"IntentVatsModel", "behind", "(III)I"⟩) ∈ lw_all := lw_g (lw_at lw_ms 66 rfl) rfl
theorem qs67 : (Cond.selects "IntentVatsModel" ⟨"IntentVatsModel", "firstAbout", "(II)I"⟩ ⟨"IntentVatsModel", "firstAbout", "(II)I"⟩) ∈ lw_all := lw_g (lw_at lw_ms 67 rfl) rfl
theorem qs68 : (Cond.selects "IntentVatsModel" ⟨"IntentVatsModel", "spoiltIn", "(I)I"⟩ ⟨"IntentVatsModel", "spoiltIn", "(I)I"⟩) ∈ lw_all := lw_g (lw_at lw_ms 68 rfl) rfl
theorem qs69 : (Cond.selects "IntentVatsModel" ⟨"IntentVatsModel", "isThrough", "(IIII)Z"⟩ ⟨"IntentVatsModel", "isThrough", "(IIII)Z"⟩) ∈ lw_all := lw_g (lw_at lw_ms 69 rfl) rfl
theorem qs70 : (Cond.selects "IntentVatsModel" ⟨"IntentVatsModel", "hangs", "(I)V"⟩ ⟨"IntentVatsModel", "hangs", "(I)V"⟩) ∈ lw_all := lw_g (lw_at lw_ms 70 rfl) rfl
theorem qs71 : (Cond.selects "IntentVatsModel" ⟨"IntentVatsModel", "isSo", "(III)Z"⟩ ⟨"IntentVatsModel", "isSo", "(III)Z"⟩) ∈ lw_all := lw_g (lw_at lw_ms 71 rfl) rfl
theorem qs72 : (Cond.selects "IntentVatsModel" ⟨"IntentVatsModel", "next", "()V"⟩ ⟨"IntentVatsModel", "next", "()V"⟩) ∈ lw_all := lw_g (lw_at lw_ms 72 rfl) rfl
theorem qs73 : (Cond.selects "IntentVatsModel" ⟨"IntentVatsModel", "isByte", "(III)Z"⟩ ⟨"IntentVatsModel", "isByte", "(III)Z"⟩) ∈ lw_all := lw_g (lw_at lw_ms 73 rfl) rfl
theorem qs74 : (Cond.selects "IntentVatsModel" ⟨"IntentVatsModel", "item", "()V"⟩ ⟨"IntentVatsModel", "item", "()V"⟩) ∈ lw_all := lw_g (lw_at lw_ms 74 rfl) rfl
theorem qs75 : (Cond.selects "IntentVatsModel" ⟨"IntentVatsModel", "kindHere", "()I"⟩ ⟨"IntentVatsModel", "kindHere", "()I"⟩) ∈ lw_all := lw_g (lw_at lw_ms 75 rfl) rfl
theorem qs76 : (Cond.selects "IntentVatsModel" ⟨"IntentVatsModel", "isWord", "(Ljava/lang/String;)Z"⟩ ⟨"IntentVatsModel", "isWord", "(Ljava/lang/String;)Z"⟩) ∈ lw_all := lw_g (lw_at lw_ms 76 rfl) rfl
theorem qs77 : (Cond.selects "IntentVatsModel" ⟨"IntentVatsModel", "lawHere", "()I"⟩ ⟨"IntentVatsModel", "lawHere", "()I"⟩) ∈ lw_all := lw_g (lw_at lw_ms 77 rfl) rfl
theorem qs78 : (Cond.selects "IntentVatsModel" ⟨"IntentVatsModel", "clothTold", "(I)V"⟩ ⟨"IntentVatsModel", "clothTold", "(I)V"⟩) ∈ lw_all := lw_g (lw_at lw_ms 78 rfl) rfl
theorem qs79 : (Cond.selects "IntentVatsModel" ⟨"IntentVatsModel", "must", "(Z)V"⟩ ⟨"IntentVatsModel", "must", "(Z)V"⟩) ∈ lw_all := lw_g (lw_at lw_ms 79 rfl) rfl
theorem qs80 : (Cond.selects "IntentVatsModel" ⟨"IntentVatsModel", "takes", "(Ljava/lang/String;)Z"⟩ ⟨"IntentVatsModel", "takes", "(Ljava/lang/String;)Z"⟩) ∈ lw_all := lw_g (lw_at lw_ms 80 rfl) rfl
theorem qs81 : (Cond.selects "IntentVatsModel" ⟨"IntentVatsModel", "number", "(II)I"⟩ ⟨"IntentVatsModel", "number", "(II)I"⟩) ∈ lw_all := lw_g (lw_at lw_ms 81 rfl) rfl
theorem qs82 : (Cond.selects "IntentVatsModel" ⟨"IntentVatsModel", "figures", "()I"⟩ ⟨"IntentVatsModel", "figures", "()I"⟩) ∈ lw_all := lw_g (lw_at lw_ms 82 rfl) rfl
theorem qs83 : (Cond.selects "IntentVatsModel" ⟨"IntentVatsModel", "twoTold", "(IILjava/lang/String;I)V"⟩ ⟨"IntentVatsModel", "twoTold", "(IILjava/lang/String;I)V"⟩) ∈ lw_all := lw_g (lw_at lw_ms 83 rfl) rfl
theorem qs84 : (Cond.selects "IntentVatsModel" ⟨"IntentVatsModel", "lawTold", "(I)V"⟩ ⟨"IntentVatsModel", "lawTold", "(I)V"⟩) ∈ lw_all := lw_g (lw_at lw_ms 84 rfl) rfl
theorem qs85 : (Cond.selects "IntentVatsModel" ⟨"IntentVatsModel", "isCell", "(II)Z"⟩ ⟨"IntentVatsModel", "isCell", "(II)Z"⟩) ∈ lw_all := lw_g (lw_at lw_ms 85 rfl) rfl
theorem qs86 : (Cond.selects "IntentVatsModel" ⟨"IntentVatsModel", "isRight", "(II)Z"⟩ ⟨"IntentVatsModel", "isRight", "(II)Z"⟩) ∈ lw_all := lw_g (lw_at lw_ms 86 rfl) rfl
theorem qs87 : (Cond.selects "IntentVatsModel" ⟨"IntentVatsModel", "isHeld", "(I)Z"⟩ ⟨"IntentVatsModel", "isHeld", "(I)Z"⟩) ∈ lw_all := lw_g (lw_at lw_ms 87 rfl) rfl
theorem qs88 : (Cond.selects "IntentVatsModel" ⟨"IntentVatsModel", "rubs", "(I)I"⟩ ⟨"IntentVatsModel", "rubs", "(I)I"⟩) ∈ lw_all := lw_g (lw_at lw_ms 88 rfl) rfl
theorem qs89 : (Cond.selects "IntentVatsModel" ⟨"IntentVatsModel", "linenRubs", "(I)I"⟩ ⟨"IntentVatsModel", "linenRubs", "(I)I"⟩) ∈ lw_all := lw_g (lw_at lw_ms 89 rfl) rfl
theorem qs90 : (Cond.selects "IntentVatsModel" ⟨"IntentVatsModel", "runs", "(I)V"⟩ ⟨"IntentVatsModel", "runs", "(I)V"⟩) ∈ lw_all := lw_g (lw_at lw_ms 90 rfl) rfl
theorem qs91 : (Cond.selects "IntentVatsModel" ⟨"IntentVatsModel", "plainRubs", "(I)I"⟩ ⟨"IntentVatsModel", "plainRubs", "(I)I"⟩) ∈ lw_all := lw_g (lw_at lw_ms 91 rfl) rfl
theorem qs92 : (Cond.selects "IntentVatsModel" ⟨"IntentVatsModel", "steepsAct", "(I)I"⟩ ⟨"IntentVatsModel", "steepsAct", "(I)I"⟩) ∈ lw_all := lw_g (lw_at lw_ms 92 rfl) rfl
theorem qs93 : (Cond.selects "IntentVatsModel" ⟨"IntentVatsModel", "plainSteeps", "(I)I"⟩ ⟨"IntentVatsModel", "plainSteeps", "(I)I"⟩) ∈ lw_all := lw_g (lw_at lw_ms 93 rfl) rfl
theorem qs94 : (Cond.selects "IntentVatsModel" ⟨"IntentVatsModel", "parts", "(I)I"⟩ ⟨"IntentVatsModel", "parts", "(I)I"⟩) ∈ lw_all := lw_g (lw_at lw_ms 94 rfl) rfl
theorem qs95 : (Cond.selects "IntentVatsModel" ⟨"IntentVatsModel", "plainParts", "(I)I"⟩ ⟨"IntentVatsModel", "plainParts", "(I)I"⟩) ∈ lw_all := lw_g (lw_at lw_ms 95 rfl) rfl
theorem qs96 : (Cond.selects "IntentVatsModel" ⟨"IntentVatsModel", "driesAct", "(I)I"⟩ ⟨"IntentVatsModel", "driesAct", "(I)I"⟩) ∈ lw_all := lw_g (lw_at lw_ms 96 rfl) rfl
theorem qs97 : (Cond.selects "IntentVatsModel" ⟨"IntentVatsModel", "plainDries", "(I)I"⟩ ⟨"IntentVatsModel", "plainDries", "(I)I"⟩) ∈ lw_all := lw_g (lw_at lw_ms 97 rfl) rfl
theorem qs98 : (Cond.selects "IntentVatsModel" ⟨"IntentVatsModel", "purposesAbout", "()I"⟩ ⟨"IntentVatsModel", "purposesAbout", "()I"⟩) ∈ lw_all := lw_g (lw_at lw_ms 98 rfl) rfl
-- ===== end of PART A; then your names; then what follows =====
