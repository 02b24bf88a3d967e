-- ===== PART A: goes FIRST, ahead of the names: the tables' words, and 'selects' of the private methods out of them =====
/-- a private method of a class that the tables say can be made, by its rows of tables_1 -/
def lw_okq (q : MethodName × Nat) : Prop := (q.1.cls ≠ "java/lang/invoke/MethodHandle" ∧ q.1.cls ≠ "java/lang/invoke/VarHandle") ∧ Cond.instantiable q.1.cls q.2 ∈ tables_1 ∧ Cond.privateMethod q.1 ∈ tables_1 ∧ Cond.instanceMethod q.1 ∈ tables_1
set_option maxRecDepth 100000
theorem lw_t1 {w : Cond} (h : w ∈ tables_1_1) : w ∈ tables_1 := List.mem_append_left _ h
theorem lw_t2 {w : Cond} (h : w ∈ tables_1_2) : w ∈ tables_1 := List.mem_append_right _ (List.mem_append_left _ h)
theorem lw_t3 {w : Cond} (h : w ∈ tables_1_3) : w ∈ tables_1 := List.mem_append_right _ (List.mem_append_right _ (List.mem_append_left _ h))
theorem lw_t4 {w : Cond} (h : w ∈ tables_1_4) : w ∈ tables_1 := List.mem_append_right _ (List.mem_append_right _ (List.mem_append_right _ (List.mem_append_left _ h)))
theorem lw_t5 {w : Cond} (h : w ∈ tables_1_5) : w ∈ tables_1 := List.mem_append_right _ (List.mem_append_right _ (List.mem_append_right _ (List.mem_append_right _ (List.mem_append_left _ h))))
theorem lw_t6 {w : Cond} (h : w ∈ tables_1_6) : w ∈ tables_1 := List.mem_append_right _ (List.mem_append_right _ (List.mem_append_right _ (List.mem_append_right _ (List.mem_append_right _ (List.mem_append_left _ h)))))
theorem lw_t7 {w : Cond} (h : w ∈ tables_1_7) : w ∈ tables_1 := List.mem_append_right _ (List.mem_append_right _ (List.mem_append_right _ (List.mem_append_right _ (List.mem_append_right _ (List.mem_append_right _ (List.mem_append_left _ h))))))
theorem lw_t8 {w : Cond} (h : w ∈ tables_1_8) : w ∈ tables_1 := List.mem_append_right _ (List.mem_append_right _ (List.mem_append_right _ (List.mem_append_right _ (List.mem_append_right _ (List.mem_append_right _ (List.mem_append_right _ h))))))
theorem lw_p0 : lw_okq (⟨"java/lang/NullPointerException", "getExtendedNPEMessage", "()Ljava/lang/String;"⟩, 8) := ⟨⟨by decide +kernel, by decide +kernel⟩, lw_t1 (List.mem_of_getElem? (i := 226) rfl), lw_t1 (List.mem_of_getElem? (i := 224) rfl), lw_t1 (List.mem_of_getElem? (i := 225) rfl)⟩
theorem lw_p1 : lw_okq (⟨"java/lang/Throwable", "fillInStackTrace", "(I)Ljava/lang/Throwable;"⟩, 6) := ⟨⟨by decide +kernel, by decide +kernel⟩, lw_t1 (List.mem_of_getElem? (i := 238) rfl), lw_t1 (List.mem_of_getElem? (i := 236) rfl), lw_t1 (List.mem_of_getElem? (i := 237) rfl)⟩
theorem lw_p2 : lw_okq (⟨"LeftIsAgreedOn", "no", "(I)I"⟩, 12) := ⟨⟨by decide +kernel, by decide +kernel⟩, lw_t1 (List.mem_of_getElem? (i := 36) rfl), lw_t2 (List.mem_of_getElem? (i := 48) rfl), lw_t2 (List.mem_of_getElem? (i := 49) rfl)⟩
theorem lw_p3 : lw_okq (⟨"LeftIsAgreedOn", "rowIn", "(I)Ljava/lang/Object;"⟩, 12) := ⟨⟨by decide +kernel, by decide +kernel⟩, lw_t1 (List.mem_of_getElem? (i := 36) rfl), lw_t2 (List.mem_of_getElem? (i := 82) rfl), lw_t2 (List.mem_of_getElem? (i := 83) rfl)⟩
theorem lw_p4 : lw_okq (⟨"LeftIsAgreedOn", "leftOf", "(LLeftIsAgreedOn$Voter;)I"⟩, 12) := ⟨⟨by decide +kernel, by decide +kernel⟩, lw_t1 (List.mem_of_getElem? (i := 36) rfl), lw_t2 (List.mem_of_getElem? (i := 210) rfl), lw_t2 (List.mem_of_getElem? (i := 211) rfl)⟩
theorem lw_p5 : lw_okq (⟨"LeftIsAgreedOn$Reader", "next", "()V"⟩, 7) := ⟨⟨by decide +kernel, by decide +kernel⟩, lw_t3 (List.mem_of_getElem? (i := 160) rfl), lw_t3 (List.mem_of_getElem? (i := 200) rfl), lw_t3 (List.mem_of_getElem? (i := 201) rfl)⟩
theorem lw_p6 : lw_okq (⟨"LeftIsAgreedOn$Reader", "isIn", "(II)Z"⟩, 7) := ⟨⟨by decide +kernel, by decide +kernel⟩, lw_t3 (List.mem_of_getElem? (i := 160) rfl), lw_t3 (List.mem_of_getElem? (i := 204) rfl), lw_t3 (List.mem_of_getElem? (i := 205) rfl)⟩
theorem lw_p7 : lw_okq (⟨"LeftIsAgreedOn$Reader", "item", "()V"⟩, 7) := ⟨⟨by decide +kernel, by decide +kernel⟩, lw_t3 (List.mem_of_getElem? (i := 160) rfl), lw_t4 (List.mem_of_getElem? (i := 157) rfl), lw_t4 (List.mem_of_getElem? (i := 158) rfl)⟩
theorem lw_p8 : lw_okq (⟨"LeftIsAgreedOn$Reader", "wrong", "()LLeftIsAgreedOn$Fault;"⟩, 7) := ⟨⟨by decide +kernel, by decide +kernel⟩, lw_t3 (List.mem_of_getElem? (i := 160) rfl), lw_t4 (List.mem_of_getElem? (i := 161) rfl), lw_t4 (List.mem_of_getElem? (i := 162) rfl)⟩
theorem lw_p9 : lw_okq (⟨"LeftIsAgreedOn$Reader", "number", "(II)I"⟩, 7) := ⟨⟨by decide +kernel, by decide +kernel⟩, lw_t3 (List.mem_of_getElem? (i := 160) rfl), lw_t5 (List.mem_of_getElem? (i := 13) rfl), lw_t5 (List.mem_of_getElem? (i := 14) rfl)⟩
theorem lw_p10 : lw_okq (⟨"LeftIsAgreedOn$Reader", "need", "(Z)V"⟩, 7) := ⟨⟨by decide +kernel, by decide +kernel⟩, lw_t3 (List.mem_of_getElem? (i := 160) rfl), lw_t5 (List.mem_of_getElem? (i := 19) rfl), lw_t5 (List.mem_of_getElem? (i := 20) rfl)⟩
theorem lw_p11 : lw_okq (⟨"LeftIsAgreedOn$Reader", "cell", "()I"⟩, 7) := ⟨⟨by decide +kernel, by decide +kernel⟩, lw_t3 (List.mem_of_getElem? (i := 160) rfl), lw_t5 (List.mem_of_getElem? (i := 23) rfl), lw_t5 (List.mem_of_getElem? (i := 24) rfl)⟩
theorem lw_p12 : lw_okq (⟨"LeftIsAgreedOn$Reader", "adds", "()V"⟩, 7) := ⟨⟨by decide +kernel, by decide +kernel⟩, lw_t3 (List.mem_of_getElem? (i := 160) rfl), lw_t5 (List.mem_of_getElem? (i := 28) rfl), lw_t5 (List.mem_of_getElem? (i := 29) rfl)⟩
theorem lw_p13 : lw_okq (⟨"LeftIsAgreedOn$Reader", "told", "(II)V"⟩, 7) := ⟨⟨by decide +kernel, by decide +kernel⟩, lw_t3 (List.mem_of_getElem? (i := 160) rfl), lw_t5 (List.mem_of_getElem? (i := 34) rfl), lw_t5 (List.mem_of_getElem? (i := 35) rfl)⟩
theorem lw_p14 : lw_okq (⟨"LeftIsAgreedOn$Reader", "takes", "(Ljava/lang/String;)Z"⟩, 7) := ⟨⟨by decide +kernel, by decide +kernel⟩, lw_t3 (List.mem_of_getElem? (i := 160) rfl), lw_t5 (List.mem_of_getElem? (i := 38) rfl), lw_t5 (List.mem_of_getElem? (i := 39) rfl)⟩
theorem lw_p15 : lw_okq (⟨"LeftIsAgreedOn", "becomes", "(LLeftIsAgreedOn$Island;)V"⟩, 12) := ⟨⟨by decide +kernel, by decide +kernel⟩, lw_t1 (List.mem_of_getElem? (i := 36) rfl), lw_t5 (List.mem_of_getElem? (i := 42) rfl), lw_t5 (List.mem_of_getElem? (i := 43) rfl)⟩
def lw_privs_1 : List (MethodName × Nat) := [(⟨"java/lang/NullPointerException", "getExtendedNPEMessage", "()Ljava/lang/String;"⟩, 8), (⟨"java/lang/Throwable", "fillInStackTrace", "(I)Ljava/lang/Throwable;"⟩, 6), (⟨"LeftIsAgreedOn", "no", "(I)I"⟩, 12), (⟨"LeftIsAgreedOn", "rowIn", "(I)Ljava/lang/Object;"⟩, 12), (⟨"LeftIsAgreedOn", "leftOf", "(LLeftIsAgreedOn$Voter;)I"⟩, 12), (⟨"LeftIsAgreedOn$Reader", "next", "()V"⟩, 7), (⟨"LeftIsAgreedOn$Reader", "isIn", "(II)Z"⟩, 7), (⟨"LeftIsAgreedOn$Reader", "item", "()V"⟩, 7), (⟨"LeftIsAgreedOn$Reader", "wrong", "()LLeftIsAgreedOn$Fault;"⟩, 7), (⟨"LeftIsAgreedOn$Reader", "number", "(II)I"⟩, 7), (⟨"LeftIsAgreedOn$Reader", "need", "(Z)V"⟩, 7), (⟨"LeftIsAgreedOn$Reader", "cell", "()I"⟩, 7), (⟨"LeftIsAgreedOn$Reader", "adds", "()V"⟩, 7), (⟨"LeftIsAgreedOn$Reader", "told", "(II)V"⟩, 7), (⟨"LeftIsAgreedOn$Reader", "takes", "(Ljava/lang/String;)Z"⟩, 7), (⟨"LeftIsAgreedOn", "becomes", "(LLeftIsAgreedOn$Island;)V"⟩, 12)]
theorem lw_r1 : ∀ q ∈ lw_privs_1, lw_okq q := List.forall_mem_cons.mpr ⟨lw_p0, List.forall_mem_cons.mpr ⟨lw_p1, List.forall_mem_cons.mpr ⟨lw_p2, List.forall_mem_cons.mpr ⟨lw_p3, List.forall_mem_cons.mpr ⟨lw_p4, List.forall_mem_cons.mpr ⟨lw_p5, List.forall_mem_cons.mpr ⟨lw_p6, List.forall_mem_cons.mpr ⟨lw_p7, List.forall_mem_cons.mpr ⟨lw_p8, List.forall_mem_cons.mpr ⟨lw_p9, List.forall_mem_cons.mpr ⟨lw_p10, List.forall_mem_cons.mpr ⟨lw_p11, List.forall_mem_cons.mpr ⟨lw_p12, List.forall_mem_cons.mpr ⟨lw_p13, List.forall_mem_cons.mpr ⟨lw_p14, List.forall_mem_cons.mpr ⟨lw_p15, fun _ h => absurd h List.not_mem_nil⟩⟩⟩⟩⟩⟩⟩⟩⟩⟩⟩⟩⟩⟩⟩⟩
theorem lw_p16 : lw_okq (⟨"LeftIsAgreedOn", "power", "(I)I"⟩, 12) := ⟨⟨by decide +kernel, by decide +kernel⟩, lw_t1 (List.mem_of_getElem? (i := 36) rfl), lw_t5 (List.mem_of_getElem? (i := 70) rfl), lw_t5 (List.mem_of_getElem? (i := 71) rfl)⟩
theorem lw_p17 : lw_okq (⟨"LeftIsAgreedOn", "toldIn", "(ZII)[J"⟩, 12) := ⟨⟨by decide +kernel, by decide +kernel⟩, lw_t1 (List.mem_of_getElem? (i := 36) rfl), lw_t5 (List.mem_of_getElem? (i := 91) rfl), lw_t5 (List.mem_of_getElem? (i := 92) rfl)⟩
theorem lw_p18 : lw_okq (⟨"LeftIsAgreedOn", "signsIn", "(ZII)[J"⟩, 12) := ⟨⟨by decide +kernel, by decide +kernel⟩, lw_t1 (List.mem_of_getElem? (i := 36) rfl), lw_t5 (List.mem_of_getElem? (i := 106) rfl), lw_t5 (List.mem_of_getElem? (i := 107) rfl)⟩
theorem lw_p19 : lw_okq (⟨"LeftIsAgreedOn", "walkedBy", "(I[J)LLeftIsAgreedOn$Walk;"⟩, 12) := ⟨⟨by decide +kernel, by decide +kernel⟩, lw_t1 (List.mem_of_getElem? (i := 36) rfl), lw_t5 (List.mem_of_getElem? (i := 113) rfl), lw_t5 (List.mem_of_getElem? (i := 114) rfl)⟩
theorem lw_p20 : lw_okq (⟨"LeftIsAgreedOn", "walked", "(LLeftIsAgreedOn$Voter;I[JI)LLeftIsAgreedOn$Walk;"⟩, 12) := ⟨⟨by decide +kernel, by decide +kernel⟩, lw_t1 (List.mem_of_getElem? (i := 36) rfl), lw_t5 (List.mem_of_getElem? (i := 117) rfl), lw_t5 (List.mem_of_getElem? (i := 118) rfl)⟩
theorem lw_p21 : lw_okq (⟨"LeftIsAgreedOn", "marks", "(LLeftIsAgreedOn$Voter;II)V"⟩, 12) := ⟨⟨by decide +kernel, by decide +kernel⟩, lw_t1 (List.mem_of_getElem? (i := 36) rfl), lw_t5 (List.mem_of_getElem? (i := 185) rfl), lw_t5 (List.mem_of_getElem? (i := 186) rfl)⟩
theorem lw_p22 : lw_okq (⟨"LeftIsAgreedOn", "shortest", "(IIZ)I"⟩, 12) := ⟨⟨by decide +kernel, by decide +kernel⟩, lw_t1 (List.mem_of_getElem? (i := 36) rfl), lw_t5 (List.mem_of_getElem? (i := 203) rfl), lw_t5 (List.mem_of_getElem? (i := 204) rfl)⟩
theorem lw_p23 : lw_okq (⟨"LeftIsAgreedOn", "brings", "(LLeftIsAgreedOn$Voter;IZII)Z"⟩, 12) := ⟨⟨by decide +kernel, by decide +kernel⟩, lw_t1 (List.mem_of_getElem? (i := 36) rfl), lw_t5 (List.mem_of_getElem? (i := 207) rfl), lw_t5 (List.mem_of_getElem? (i := 208) rfl)⟩
theorem lw_p24 : lw_okq (⟨"LeftIsAgreedOn", "both", "(IIIIIIZ)I"⟩, 12) := ⟨⟨by decide +kernel, by decide +kernel⟩, lw_t1 (List.mem_of_getElem? (i := 36) rfl), lw_t6 (List.mem_of_getElem? (i := 17) rfl), lw_t6 (List.mem_of_getElem? (i := 18) rfl)⟩
theorem lw_p25 : lw_okq (⟨"LeftIsAgreedOn", "rowFor", "(II)Ljava/lang/Object;"⟩, 12) := ⟨⟨by decide +kernel, by decide +kernel⟩, lw_t1 (List.mem_of_getElem? (i := 36) rfl), lw_t6 (List.mem_of_getElem? (i := 21) rfl), lw_t6 (List.mem_of_getElem? (i := 22) rfl)⟩
theorem lw_p26 : lw_okq (⟨"LeftIsAgreedOn", "met", "(I[JI[JI)I"⟩, 12) := ⟨⟨by decide +kernel, by decide +kernel⟩, lw_t1 (List.mem_of_getElem? (i := 36) rfl), lw_t6 (List.mem_of_getElem? (i := 25) rfl), lw_t6 (List.mem_of_getElem? (i := 26) rfl)⟩
theorem lw_p27 : lw_okq (⟨"LeftIsAgreedOn", "shelved", "()I"⟩, 12) := ⟨⟨by decide +kernel, by decide +kernel⟩, lw_t1 (List.mem_of_getElem? (i := 36) rfl), lw_t6 (List.mem_of_getElem? (i := 76) rfl), lw_t6 (List.mem_of_getElem? (i := 77) rfl)⟩
theorem lw_p28 : lw_okq (⟨"LeftIsAgreedOnModel", "refuse", "(I)I"⟩, 26) := ⟨⟨by decide +kernel, by decide +kernel⟩, lw_t6 (List.mem_of_getElem? (i := 80) rfl), lw_t6 (List.mem_of_getElem? (i := 177) rfl), lw_t6 (List.mem_of_getElem? (i := 178) rfl)⟩
theorem lw_p29 : lw_okq (⟨"LeftIsAgreedOnModel", "isCell", "(I)Z"⟩, 26) := ⟨⟨by decide +kernel, by decide +kernel⟩, lw_t6 (List.mem_of_getElem? (i := 80) rfl), lw_t6 (List.mem_of_getElem? (i := 185) rfl), lw_t6 (List.mem_of_getElem? (i := 186) rfl)⟩
theorem lw_p30 : lw_okq (⟨"LeftIsAgreedOnModel", "isSomebody", "(I)Z"⟩, 26) := ⟨⟨by decide +kernel, by decide +kernel⟩, lw_t6 (List.mem_of_getElem? (i := 80) rfl), lw_t6 (List.mem_of_getElem? (i := 189) rfl), lw_t6 (List.mem_of_getElem? (i := 190) rfl)⟩
theorem lw_p31 : lw_okq (⟨"LeftIsAgreedOnModel", "many", "()I"⟩, 26) := ⟨⟨by decide +kernel, by decide +kernel⟩, lw_t6 (List.mem_of_getElem? (i := 80) rfl), lw_t6 (List.mem_of_getElem? (i := 193) rfl), lw_t6 (List.mem_of_getElem? (i := 194) rfl)⟩
def lw_privs_2 : List (MethodName × Nat) := [(⟨"LeftIsAgreedOn", "power", "(I)I"⟩, 12), (⟨"LeftIsAgreedOn", "toldIn", "(ZII)[J"⟩, 12), (⟨"LeftIsAgreedOn", "signsIn", "(ZII)[J"⟩, 12), (⟨"LeftIsAgreedOn", "walkedBy", "(I[J)LLeftIsAgreedOn$Walk;"⟩, 12), (⟨"LeftIsAgreedOn", "walked", "(LLeftIsAgreedOn$Voter;I[JI)LLeftIsAgreedOn$Walk;"⟩, 12), (⟨"LeftIsAgreedOn", "marks", "(LLeftIsAgreedOn$Voter;II)V"⟩, 12), (⟨"LeftIsAgreedOn", "shortest", "(IIZ)I"⟩, 12), (⟨"LeftIsAgreedOn", "brings", "(LLeftIsAgreedOn$Voter;IZII)Z"⟩, 12), (⟨"LeftIsAgreedOn", "both", "(IIIIIIZ)I"⟩, 12), (⟨"LeftIsAgreedOn", "rowFor", "(II)Ljava/lang/Object;"⟩, 12), (⟨"LeftIsAgreedOn", "met", "(I[JI[JI)I"⟩, 12), (⟨"LeftIsAgreedOn", "shelved", "()I"⟩, 12), (⟨"LeftIsAgreedOnModel", "refuse", "(I)I"⟩, 26), (⟨"LeftIsAgreedOnModel", "isCell", "(I)Z"⟩, 26), (⟨"LeftIsAgreedOnModel", "isSomebody", "(I)Z"⟩, 26), (⟨"LeftIsAgreedOnModel", "many", "()I"⟩, 26)]
theorem lw_r2 : ∀ q ∈ lw_privs_2, lw_okq q := List.forall_mem_cons.mpr ⟨lw_p16, List.forall_mem_cons.mpr ⟨lw_p17, List.forall_mem_cons.mpr ⟨lw_p18, List.forall_mem_cons.mpr ⟨lw_p19, List.forall_mem_cons.mpr ⟨lw_p20, List.forall_mem_cons.mpr ⟨lw_p21, List.forall_mem_cons.mpr ⟨lw_p22, List.forall_mem_cons.mpr ⟨lw_p23, List.forall_mem_cons.mpr ⟨lw_p24, List.forall_mem_cons.mpr ⟨lw_p25, List.forall_mem_cons.mpr ⟨lw_p26, List.forall_mem_cons.mpr ⟨lw_p27, List.forall_mem_cons.mpr ⟨lw_p28, List.forall_mem_cons.mpr ⟨lw_p29, List.forall_mem_cons.mpr ⟨lw_p30, List.forall_mem_cons.mpr ⟨lw_p31, fun _ h => absurd h List.not_mem_nil⟩⟩⟩⟩⟩⟩⟩⟩⟩⟩⟩⟩⟩⟩⟩⟩
theorem lw_p32 : lw_okq (⟨"LeftIsAgreedOnModel", "cell", "(I)I"⟩, 26) := ⟨⟨by decide +kernel, by decide +kernel⟩, lw_t6 (List.mem_of_getElem? (i := 80) rfl), lw_t6 (List.mem_of_getElem? (i := 197) rfl), lw_t6 (List.mem_of_getElem? (i := 198) rfl)⟩
theorem lw_p33 : lw_okq (⟨"LeftIsAgreedOnModel", "hasPond", "(I)Z"⟩, 26) := ⟨⟨by decide +kernel, by decide +kernel⟩, lw_t6 (List.mem_of_getElem? (i := 80) rfl), lw_t6 (List.mem_of_getElem? (i := 211) rfl), lw_t6 (List.mem_of_getElem? (i := 212) rfl)⟩
theorem lw_p34 : lw_okq (⟨"LeftIsAgreedOnModel", "add", "(IIII)I"⟩, 26) := ⟨⟨by decide +kernel, by decide +kernel⟩, lw_t6 (List.mem_of_getElem? (i := 80) rfl), lw_t6 (List.mem_of_getElem? (i := 215) rfl), lw_t6 (List.mem_of_getElem? (i := 216) rfl)⟩
theorem lw_p35 : lw_okq (⟨"LeftIsAgreedOnModel", "isPerson", "(I)Z"⟩, 26) := ⟨⟨by decide +kernel, by decide +kernel⟩, lw_t6 (List.mem_of_getElem? (i := 80) rfl), lw_t6 (List.mem_of_getElem? (i := 229) rfl), lw_t6 (List.mem_of_getElem? (i := 230) rfl)⟩
theorem lw_p36 : lw_okq (⟨"LeftIsAgreedOnModel", "isFor", "(I)I"⟩, 26) := ⟨⟨by decide +kernel, by decide +kernel⟩, lw_t6 (List.mem_of_getElem? (i := 80) rfl), lw_t6 (List.mem_of_getElem? (i := 233) rfl), lw_t6 (List.mem_of_getElem? (i := 234) rfl)⟩
theorem lw_p37 : lw_okq (⟨"LeftIsAgreedOnModel", "isStatement", "()Z"⟩, 26) := ⟨⟨by decide +kernel, by decide +kernel⟩, lw_t6 (List.mem_of_getElem? (i := 80) rfl), lw_t7 (List.mem_of_getElem? (i := 21) rfl), lw_t7 (List.mem_of_getElem? (i := 22) rfl)⟩
theorem lw_p38 : lw_okq (⟨"LeftIsAgreedOnModel", "next", "()V"⟩, 26) := ⟨⟨by decide +kernel, by decide +kernel⟩, lw_t6 (List.mem_of_getElem? (i := 80) rfl), lw_t7 (List.mem_of_getElem? (i := 25) rfl), lw_t7 (List.mem_of_getElem? (i := 26) rfl)⟩
theorem lw_p39 : lw_okq (⟨"LeftIsAgreedOnModel", "sortAt", "(I)I"⟩, 26) := ⟨⟨by decide +kernel, by decide +kernel⟩, lw_t6 (List.mem_of_getElem? (i := 80) rfl), lw_t7 (List.mem_of_getElem? (i := 29) rfl), lw_t7 (List.mem_of_getElem? (i := 30) rfl)⟩
theorem lw_p40 : lw_okq (⟨"LeftIsAgreedOnModel", "word", "()I"⟩, 26) := ⟨⟨by decide +kernel, by decide +kernel⟩, lw_t6 (List.mem_of_getElem? (i := 80) rfl), lw_t7 (List.mem_of_getElem? (i := 37) rfl), lw_t7 (List.mem_of_getElem? (i := 38) rfl)⟩
theorem lw_p41 : lw_okq (⟨"LeftIsAgreedOnModel", "isPersonStatement", "()Z"⟩, 26) := ⟨⟨by decide +kernel, by decide +kernel⟩, lw_t6 (List.mem_of_getElem? (i := 80) rfl), lw_t7 (List.mem_of_getElem? (i := 41) rfl), lw_t7 (List.mem_of_getElem? (i := 42) rfl)⟩
theorem lw_p42 : lw_okq (⟨"LeftIsAgreedOnModel", "number", "(II)I"⟩, 26) := ⟨⟨by decide +kernel, by decide +kernel⟩, lw_t6 (List.mem_of_getElem? (i := 80) rfl), lw_t7 (List.mem_of_getElem? (i := 45) rfl), lw_t7 (List.mem_of_getElem? (i := 46) rfl)⟩
theorem lw_p43 : lw_okq (⟨"LeftIsAgreedOnModel", "cellNumber", "()I"⟩, 26) := ⟨⟨by decide +kernel, by decide +kernel⟩, lw_t6 (List.mem_of_getElem? (i := 80) rfl), lw_t7 (List.mem_of_getElem? (i := 49) rfl), lw_t7 (List.mem_of_getElem? (i := 50) rfl)⟩
theorem lw_p44 : lw_okq (⟨"LeftIsAgreedOnModel", "rowIn", "(I)I"⟩, 26) := ⟨⟨by decide +kernel, by decide +kernel⟩, lw_t6 (List.mem_of_getElem? (i := 80) rfl), lw_t7 (List.mem_of_getElem? (i := 66) rfl), lw_t7 (List.mem_of_getElem? (i := 67) rfl)⟩
theorem lw_p45 : lw_okq (⟨"LeftIsAgreedOnModel", "kind", "(I)I"⟩, 26) := ⟨⟨by decide +kernel, by decide +kernel⟩, lw_t6 (List.mem_of_getElem? (i := 80) rfl), lw_t7 (List.mem_of_getElem? (i := 90) rfl), lw_t7 (List.mem_of_getElem? (i := 91) rfl)⟩
theorem lw_p46 : lw_okq (⟨"LeftIsAgreedOnModel", "a", "(I)I"⟩, 26) := ⟨⟨by decide +kernel, by decide +kernel⟩, lw_t6 (List.mem_of_getElem? (i := 80) rfl), lw_t7 (List.mem_of_getElem? (i := 94) rfl), lw_t7 (List.mem_of_getElem? (i := 95) rfl)⟩
theorem lw_p47 : lw_okq (⟨"LeftIsAgreedOnModel", "faces", "(I)I"⟩, 26) := ⟨⟨by decide +kernel, by decide +kernel⟩, lw_t6 (List.mem_of_getElem? (i := 80) rfl), lw_t7 (List.mem_of_getElem? (i := 98) rfl), lw_t7 (List.mem_of_getElem? (i := 99) rfl)⟩
def lw_privs_3 : List (MethodName × Nat) := [(⟨"LeftIsAgreedOnModel", "cell", "(I)I"⟩, 26), (⟨"LeftIsAgreedOnModel", "hasPond", "(I)Z"⟩, 26), (⟨"LeftIsAgreedOnModel", "add", "(IIII)I"⟩, 26), (⟨"LeftIsAgreedOnModel", "isPerson", "(I)Z"⟩, 26), (⟨"LeftIsAgreedOnModel", "isFor", "(I)I"⟩, 26), (⟨"LeftIsAgreedOnModel", "isStatement", "()Z"⟩, 26), (⟨"LeftIsAgreedOnModel", "next", "()V"⟩, 26), (⟨"LeftIsAgreedOnModel", "sortAt", "(I)I"⟩, 26), (⟨"LeftIsAgreedOnModel", "word", "()I"⟩, 26), (⟨"LeftIsAgreedOnModel", "isPersonStatement", "()Z"⟩, 26), (⟨"LeftIsAgreedOnModel", "number", "(II)I"⟩, 26), (⟨"LeftIsAgreedOnModel", "cellNumber", "()I"⟩, 26), (⟨"LeftIsAgreedOnModel", "rowIn", "(I)I"⟩, 26), (⟨"LeftIsAgreedOnModel", "kind", "(I)I"⟩, 26), (⟨"LeftIsAgreedOnModel", "a", "(I)I"⟩, 26), (⟨"LeftIsAgreedOnModel", "faces", "(I)I"⟩, 26)]
theorem lw_r3 : ∀ q ∈ lw_privs_3, lw_okq q := List.forall_mem_cons.mpr ⟨lw_p32, List.forall_mem_cons.mpr ⟨lw_p33, List.forall_mem_cons.mpr ⟨lw_p34, List.forall_mem_cons.mpr ⟨lw_p35, List.forall_mem_cons.mpr ⟨lw_p36, List.forall_mem_cons.mpr ⟨lw_p37, List.forall_mem_cons.mpr ⟨lw_p38, List.forall_mem_cons.mpr ⟨lw_p39, List.forall_mem_cons.mpr ⟨lw_p40, List.forall_mem_cons.mpr ⟨lw_p41, List.forall_mem_cons.mpr ⟨lw_p42, List.forall_mem_cons.mpr ⟨lw_p43, List.forall_mem_cons.mpr ⟨lw_p44, List.forall_mem_cons.mpr ⟨lw_p45, List.forall_mem_cons.mpr ⟨lw_p46, List.forall_mem_cons.mpr ⟨lw_p47, fun _ h => absurd h List.not_mem_nil⟩⟩⟩⟩⟩⟩⟩⟩⟩⟩⟩⟩⟩⟩⟩⟩
theorem lw_p48 : lw_okq (⟨"LeftIsAgreedOnModel", "start", "(III)V"⟩, 26) := ⟨⟨by decide +kernel, by decide +kernel⟩, lw_t6 (List.mem_of_getElem? (i := 80) rfl), lw_t7 (List.mem_of_getElem? (i := 102) rfl), lw_t7 (List.mem_of_getElem? (i := 103) rfl)⟩
theorem lw_p49 : lw_okq (⟨"LeftIsAgreedOnModel", "step", "(IIII)V"⟩, 26) := ⟨⟨by decide +kernel, by decide +kernel⟩, lw_t6 (List.mem_of_getElem? (i := 80) rfl), lw_t7 (List.mem_of_getElem? (i := 106) rfl), lw_t7 (List.mem_of_getElem? (i := 107) rfl)⟩
theorem lw_p50 : lw_okq (⟨"LeftIsAgreedOnModel", "beside", "(II)I"⟩, 26) := ⟨⟨by decide +kernel, by decide +kernel⟩, lw_t6 (List.mem_of_getElem? (i := 80) rfl), lw_t7 (List.mem_of_getElem? (i := 110) rfl), lw_t7 (List.mem_of_getElem? (i := 111) rfl)⟩
theorem lw_p51 : lw_okq (⟨"LeftIsAgreedOnModel", "goesBy", "(III)I"⟩, 26) := ⟨⟨by decide +kernel, by decide +kernel⟩, lw_t6 (List.mem_of_getElem? (i := 80) rfl), lw_t7 (List.mem_of_getElem? (i := 114) rfl), lw_t7 (List.mem_of_getElem? (i := 115) rfl)⟩
theorem lw_p52 : lw_okq (⟨"LeftIsAgreedOnModel", "isShore", "(I)Z"⟩, 26) := ⟨⟨by decide +kernel, by decide +kernel⟩, lw_t6 (List.mem_of_getElem? (i := 80) rfl), lw_t7 (List.mem_of_getElem? (i := 118) rfl), lw_t7 (List.mem_of_getElem? (i := 119) rfl)⟩
theorem lw_p53 : lw_okq (⟨"LeftIsAgreedOnModel", "loadIf", "(ZII)I"⟩, 26) := ⟨⟨by decide +kernel, by decide +kernel⟩, lw_t6 (List.mem_of_getElem? (i := 80) rfl), lw_t7 (List.mem_of_getElem? (i := 126) rfl), lw_t7 (List.mem_of_getElem? (i := 127) rfl)⟩
theorem lw_p54 : lw_okq (⟨"LeftIsAgreedOnModel", "load", "(II)I"⟩, 26) := ⟨⟨by decide +kernel, by decide +kernel⟩, lw_t6 (List.mem_of_getElem? (i := 80) rfl), lw_t7 (List.mem_of_getElem? (i := 130) rfl), lw_t7 (List.mem_of_getElem? (i := 131) rfl)⟩
theorem lw_p55 : lw_okq (⟨"LeftIsAgreedOnModel", "go", "(II)V"⟩, 26) := ⟨⟨by decide +kernel, by decide +kernel⟩, lw_t6 (List.mem_of_getElem? (i := 80) rfl), lw_t7 (List.mem_of_getElem? (i := 134) rfl), lw_t7 (List.mem_of_getElem? (i := 135) rfl)⟩
theorem lw_p56 : lw_okq (⟨"LeftIsAgreedOnModel", "spell", "(II)V"⟩, 26) := ⟨⟨by decide +kernel, by decide +kernel⟩, lw_t6 (List.mem_of_getElem? (i := 80) rfl), lw_t7 (List.mem_of_getElem? (i := 150) rfl), lw_t7 (List.mem_of_getElem? (i := 151) rfl)⟩
theorem lw_p57 : lw_okq (⟨"LeftIsAgreedOnModel", "brings", "(IIII)Z"⟩, 26) := ⟨⟨by decide +kernel, by decide +kernel⟩, lw_t6 (List.mem_of_getElem? (i := 80) rfl), lw_t7 (List.mem_of_getElem? (i := 154) rfl), lw_t7 (List.mem_of_getElem? (i := 155) rfl)⟩
theorem lw_p58 : lw_okq (⟨"LeftIsAgreedOnModel", "comeOut", "(I)V"⟩, 26) := ⟨⟨by decide +kernel, by decide +kernel⟩, lw_t6 (List.mem_of_getElem? (i := 80) rfl), lw_t7 (List.mem_of_getElem? (i := 170) rfl), lw_t7 (List.mem_of_getElem? (i := 171) rfl)⟩
theorem lw_p59 : lw_okq (⟨"LeftIsAgreedOnModel", "outIn", "(I)I"⟩, 26) := ⟨⟨by decide +kernel, by decide +kernel⟩, lw_t6 (List.mem_of_getElem? (i := 80) rfl), lw_t7 (List.mem_of_getElem? (i := 174) rfl), lw_t7 (List.mem_of_getElem? (i := 175) rfl)⟩
theorem lw_p60 : lw_okq (⟨"LeftIsAgreedOnModel", "weigh", "(I)I"⟩, 26) := ⟨⟨by decide +kernel, by decide +kernel⟩, lw_t6 (List.mem_of_getElem? (i := 80) rfl), lw_t7 (List.mem_of_getElem? (i := 228) rfl), lw_t7 (List.mem_of_getElem? (i := 229) rfl)⟩
theorem lw_p61 : lw_okq (⟨"LeftIsAgreedOnModel", "power", "(I)I"⟩, 26) := ⟨⟨by decide +kernel, by decide +kernel⟩, lw_t6 (List.mem_of_getElem? (i := 80) rfl), lw_t8 (List.mem_of_getElem? (i := 0) rfl), lw_t8 (List.mem_of_getElem? (i := 1) rfl)⟩
theorem lw_p62 : lw_okq (⟨"LeftIsAgreedOnModel", "change", "(I)V"⟩, 26) := ⟨⟨by decide +kernel, by decide +kernel⟩, lw_t6 (List.mem_of_getElem? (i := 80) rfl), lw_t8 (List.mem_of_getElem? (i := 13) rfl), lw_t8 (List.mem_of_getElem? (i := 14) rfl)⟩
theorem lw_p63 : lw_okq (⟨"LeftIsAgreedOnModel", "loadBoth", "(IIIIII)I"⟩, 26) := ⟨⟨by decide +kernel, by decide +kernel⟩, lw_t6 (List.mem_of_getElem? (i := 80) rfl), lw_t8 (List.mem_of_getElem? (i := 32) rfl), lw_t8 (List.mem_of_getElem? (i := 33) rfl)⟩
def lw_privs_4 : List (MethodName × Nat) := [(⟨"LeftIsAgreedOnModel", "start", "(III)V"⟩, 26), (⟨"LeftIsAgreedOnModel", "step", "(IIII)V"⟩, 26), (⟨"LeftIsAgreedOnModel", "beside", "(II)I"⟩, 26), (⟨"LeftIsAgreedOnModel", "goesBy", "(III)I"⟩, 26), (⟨"LeftIsAgreedOnModel", "isShore", "(I)Z"⟩, 26), (⟨"LeftIsAgreedOnModel", "loadIf", "(ZII)I"⟩, 26), (⟨"LeftIsAgreedOnModel", "load", "(II)I"⟩, 26), (⟨"LeftIsAgreedOnModel", "go", "(II)V"⟩, 26), (⟨"LeftIsAgreedOnModel", "spell", "(II)V"⟩, 26), (⟨"LeftIsAgreedOnModel", "brings", "(IIII)Z"⟩, 26), (⟨"LeftIsAgreedOnModel", "comeOut", "(I)V"⟩, 26), (⟨"LeftIsAgreedOnModel", "outIn", "(I)I"⟩, 26), (⟨"LeftIsAgreedOnModel", "weigh", "(I)I"⟩, 26), (⟨"LeftIsAgreedOnModel", "power", "(I)I"⟩, 26), (⟨"LeftIsAgreedOnModel", "change", "(I)V"⟩, 26), (⟨"LeftIsAgreedOnModel", "loadBoth", "(IIIIII)I"⟩, 26)]
theorem lw_r4 : ∀ q ∈ lw_privs_4, lw_okq q := List.forall_mem_cons.mpr ⟨lw_p48, List.forall_mem_cons.mpr ⟨lw_p49, List.forall_mem_cons.mpr ⟨lw_p50, List.forall_mem_cons.mpr ⟨lw_p51, List.forall_mem_cons.mpr ⟨lw_p52, List.forall_mem_cons.mpr ⟨lw_p53, List.forall_mem_cons.mpr ⟨lw_p54, List.forall_mem_cons.mpr ⟨lw_p55, List.forall_mem_cons.mpr ⟨lw_p56, List.forall_mem_cons.mpr ⟨lw_p57, List.forall_mem_cons.mpr ⟨lw_p58, List.forall_mem_cons.mpr ⟨lw_p59, List.forall_mem_cons.mpr ⟨lw_p60, List.forall_mem_cons.mpr ⟨lw_p61, List.forall_mem_cons.mpr ⟨lw_p62, List.forall_mem_cons.mpr ⟨lw_p63, fun _ h => absurd h List.not_mem_nil⟩⟩⟩⟩⟩⟩⟩⟩⟩⟩⟩⟩⟩⟩⟩⟩
theorem lw_p64 : lw_okq (⟨"LeftIsAgreedOnModel", "met", "(IIIII)I"⟩, 26) := ⟨⟨by decide +kernel, by decide +kernel⟩, lw_t6 (List.mem_of_getElem? (i := 80) rfl), lw_t8 (List.mem_of_getElem? (i := 36) rfl), lw_t8 (List.mem_of_getElem? (i := 37) rfl)⟩
theorem lw_p65 : lw_okq (⟨"LeftIsAgreedOnModel", "draw", "(I)I"⟩, 26) := ⟨⟨by decide +kernel, by decide +kernel⟩, lw_t6 (List.mem_of_getElem? (i := 80) rfl), lw_t8 (List.mem_of_getElem? (i := 58) rfl), lw_t8 (List.mem_of_getElem? (i := 59) rfl)⟩
def lw_privs_5 : List (MethodName × Nat) := [(⟨"LeftIsAgreedOnModel", "met", "(IIIII)I"⟩, 26), (⟨"LeftIsAgreedOnModel", "draw", "(I)I"⟩, 26)]
theorem lw_r5 : ∀ q ∈ lw_privs_5, lw_okq q := List.forall_mem_cons.mpr ⟨lw_p64, List.forall_mem_cons.mpr ⟨lw_p65, fun _ h => absurd h List.not_mem_nil⟩⟩
def lw_privs : List (MethodName × Nat) := lw_privs_1 ++ (lw_privs_2 ++ (lw_privs_3 ++ (lw_privs_4 ++ (lw_privs_5))))
def lw_tbl : List Cond := k2_sels lw_privs ++ tables_1
theorem lw_privs_ok : ∀ q ∈ lw_privs, lw_okq q := by
  show ∀ q ∈ lw_privs_1 ++ (lw_privs_2 ++ (lw_privs_3 ++ (lw_privs_4 ++ (lw_privs_5)))), lw_okq q
  exact List.forall_mem_append.mpr ⟨lw_r1, List.forall_mem_append.mpr ⟨lw_r2, List.forall_mem_append.mpr ⟨lw_r3, List.forall_mem_append.mpr ⟨lw_r4, lw_r5⟩⟩⟩⟩
-- ===== ONE list of words for every method: the tables' words that hold all through a run =====
def lw_all : List Cond := lw_tbl.filter goodWord
/-- a word of the tables by its place: claim/WORDS.tsv -/
theorem lw_w {w : Cond} (i : Nat) (h : lw_tbl[i]? = some w) (g : goodWord w = true) : w ∈ lw_all := List.mem_filter.mpr ⟨List.mem_of_getElem? h, g⟩
theorem lw_all_tbl {w : Cond} (h : w ∈ lw_all) : w ∈ lw_tbl := (List.mem_filter.mp h).1
theorem lw_self : GoodIn lw_all lw_all := fun w h => ⟨h, good_of_word (List.mem_filter.mp h).2⟩
/-- a class's field words, by their places -/
theorem lw_in (ws : List Cond) (ps : List Nat) (hp : ws = ps.filterMap (fun i => lw_tbl[i]?)) (hg : ws.all goodWord = true) : ∀ w ∈ ws, w ∈ lw_all := by
  intro w h
  have h1 := List.all_eq_true.mp hg w h
  rw [hp] at h
  obtain ⟨i, -, hi⟩ := List.mem_filterMap.mp h
  exact lw_w i hi h1
/-- the words of a contract for the method y with code b, L locals, answer r -/
abbrev ws_ (y : MethodName) (b : ByteArray) (L : Nat) (r : Option FieldType) : List Cond := Cond.code y b L r :: lw_all
theorem lw_meth {y : MethodName} {b : ByteArray} {L : Nat} {r : Option FieldType} (h : Cond.code y b L r ∈ lw_all) : GoodIn lw_all (ws_ y b L r) := by
  intro w hw
  rcases List.mem_cons.mp hw with e | e
  · rw [e]
    exact lw_self _ h
  · exact lw_self _ e
theorem lw_app {a c : List Cond} (ha : ∀ w ∈ a, w ∈ lw_all) (hc : GoodIn lw_all c) : GoodIn lw_all (a ++ c) := by
  intro w hw
  rcases List.mem_append.mp hw with e | e
  · exact lw_self w (ha w e)
  · exact hc w e
/-- what a call through an object asks: cwV n hts (lw_V ..) -/
theorem lw_V {own : String} {idx : Nat} {C : String} {y : MethodName} {b : ByteArray} {L : Nat} {r : Option FieldType} (h1 : Cond.methodLink own idx y ∈ lw_all) (h2 : Cond.instanceMethod y ∈ lw_all) (h3 : Cond.selects C y y ∈ lw_all) (h4 : Cond.initialized C ∈ lw_all) (h5 : Cond.code y b L r ∈ lw_all) : GoodIn lw_all (wsV own idx C y (ws_ y b L r)) := by
  refine lw_app ?_ (lw_meth h5)
  intro w hw
  simp only [List.mem_cons, List.not_mem_nil, or_false] at hw
  rcases hw with e | e | e | e
  · rw [e]; exact h1
  · rw [e]; exact h2
  · rw [e]; exact h3
  · rw [e]; exact h4
/-- what a static call asks: va_cwS n hts (lw_S ..) -/
theorem lw_S {own : String} {idx : Nat} {y : MethodName} {b : ByteArray} {L : Nat} {r : Option FieldType} (h1 : Cond.methodLink own idx y ∈ lw_all) (h2 : Cond.static y ∈ lw_all) (h3 : Cond.initialized y.cls ∈ lw_all) (h4 : Cond.code y b L r ∈ lw_all) : GoodIn lw_all (va_wsS own idx y (ws_ y b L r)) := by
  refine lw_app ?_ (lw_meth h4)
  intro w hw
  simp only [List.mem_cons, List.not_mem_nil, or_false] at hw
  rcases hw with e | e | e
  · rw [e]; exact h1
  · rw [e]; exact h2
  · rw [e]; exact h3
/-- the words of a contract for a method WITH HANDLERS (hh: its table) -/
abbrev wsW_ (y : MethodName) (b : ByteArray) (L : Nat) (r : Option FieldType) (hh : List (Nat × Nat × Nat × Nat)) : List Cond := Cond.codeWith y b L r hh :: lw_all
theorem lw_methW {y : MethodName} {b : ByteArray} {L : Nat} {r : Option FieldType} {hh : List (Nat × Nat × Nat × Nat)} (h : Cond.codeWith y b L r hh ∈ lw_all) : GoodIn lw_all (wsW_ y b L r hh) := by
  intro w hw
  rcases List.mem_cons.mp hw with e | e
  · rw [e]
    exact lw_self _ h
  · exact lw_self _ e
/-- any list of words by their places (lw_in), good -/
theorem lw_good {ws : List Cond} (h : ∀ w ∈ ws, w ∈ lw_all) : GoodIn lw_all ws := fun w hw => lw_self w (h w hw)
/-- what a call of a method with handlers asks: vx_cwVW n hts (lw_VW ..), vx_cwSW n hts (lw_SW ..) -/
theorem lw_VW {own : String} {idx : Nat} {C : String} {y : MethodName} {b : ByteArray} {L : Nat} {r : Option FieldType} {hh : List (Nat × Nat × Nat × Nat)} (h1 : Cond.methodLink own idx y ∈ lw_all) (h2 : Cond.instanceMethod y ∈ lw_all) (h3 : Cond.selects C y y ∈ lw_all) (h4 : Cond.initialized C ∈ lw_all) (h5 : Cond.codeWith y b L r hh ∈ lw_all) : GoodIn lw_all (wsV own idx C y (wsW_ y b L r hh)) := by
  refine lw_app ?_ (lw_methW h5)
  intro w hw
  simp only [List.mem_cons, List.not_mem_nil, or_false] at hw
  rcases hw with e | e | e | e
  · rw [e]; exact h1
  · rw [e]; exact h2
  · rw [e]; exact h3
  · rw [e]; exact h4
theorem lw_SW {own : String} {idx : Nat} {y : MethodName} {b : ByteArray} {L : Nat} {r : Option FieldType} {hh : List (Nat × Nat × Nat × Nat)} (h1 : Cond.methodLink own idx y ∈ lw_all) (h2 : Cond.static y ∈ lw_all) (h3 : Cond.initialized y.cls ∈ lw_all) (h4 : Cond.codeWith y b L r hh ∈ lw_all) : GoodIn lw_all (va_wsS own idx y (wsW_ y b L r hh)) := by
  refine lw_app ?_ (lw_methW h4)
  intro w hw
  simp only [List.mem_cons, List.not_mem_nil, or_false] at hw
  rcases hw with e | e | e
  · rw [e]; exact h1
  · rw [e]; exact h2
  · rw [e]; exact h3
/-- a word by its place in its run of the tables -/
theorem lw_at {r : List Cond} (hr : ∀ w ∈ r, w ∈ lw_tbl) {w : Cond} (i : Nat) (h : r[i]? = some w) : w ∈ lw_tbl := hr w (List.mem_of_getElem? h)
theorem lw_g {w : Cond} (h : w ∈ lw_tbl) (g : goodWord w = true) : w ∈ lw_all := List.mem_filter.mpr ⟨h, g⟩
theorem lw_ms : ∀ w ∈ k2_sels lw_privs, w ∈ lw_tbl := fun w h => show w ∈ k2_sels lw_privs ++ tables_1 from List.mem_append_left _ h
theorem lw_m1 : ∀ w ∈ tables_1_1, w ∈ lw_tbl := fun w h => show w ∈ k2_sels lw_privs ++ tables_1 from List.mem_append_right (k2_sels lw_privs) (show w ∈ tables_1 from List.mem_append_left _ h)
theorem lw_m2 : ∀ w ∈ tables_1_2, w ∈ lw_tbl := fun w h => show w ∈ k2_sels lw_privs ++ tables_1 from List.mem_append_right (k2_sels lw_privs) (show w ∈ tables_1 from List.mem_append_right _ (List.mem_append_left _ h))
theorem lw_m3 : ∀ w ∈ tables_1_3, w ∈ lw_tbl := fun w h => show w ∈ k2_sels lw_privs ++ tables_1 from List.mem_append_right (k2_sels lw_privs) (show w ∈ tables_1 from List.mem_append_right _ (List.mem_append_right _ (List.mem_append_left _ h)))
theorem lw_m4 : ∀ w ∈ tables_1_4, w ∈ lw_tbl := fun w h => show w ∈ k2_sels lw_privs ++ tables_1 from List.mem_append_right (k2_sels lw_privs) (show w ∈ tables_1 from List.mem_append_right _ (List.mem_append_right _ (List.mem_append_right _ (List.mem_append_left _ h))))
theorem lw_m5 : ∀ w ∈ tables_1_5, w ∈ lw_tbl := fun w h => show w ∈ k2_sels lw_privs ++ tables_1 from List.mem_append_right (k2_sels lw_privs) (show w ∈ tables_1 from List.mem_append_right _ (List.mem_append_right _ (List.mem_append_right _ (List.mem_append_right _ (List.mem_append_left _ h)))))
theorem lw_m6 : ∀ w ∈ tables_1_6, w ∈ lw_tbl := fun w h => show w ∈ k2_sels lw_privs ++ tables_1 from List.mem_append_right (k2_sels lw_privs) (show w ∈ tables_1 from List.mem_append_right _ (List.mem_append_right _ (List.mem_append_right _ (List.mem_append_right _ (List.mem_append_right _ (List.mem_append_left _ h))))))
theorem lw_m7 : ∀ w ∈ tables_1_7, w ∈ lw_tbl := fun w h => show w ∈ k2_sels lw_privs ++ tables_1 from List.mem_append_right (k2_sels lw_privs) (show w ∈ tables_1 from List.mem_append_right _ (List.mem_append_right _ (List.mem_append_right _ (List.mem_append_right _ (List.mem_append_right _ (List.mem_append_right _ (List.mem_append_left _ h)))))))
theorem lw_m8 : ∀ w ∈ tables_1_8, w ∈ lw_tbl := fun w h => show w ∈ k2_sels lw_privs ++ tables_1 from List.mem_append_right (k2_sels lw_privs) (show w ∈ tables_1 from List.mem_append_right _ (List.mem_append_right _ (List.mem_append_right _ (List.mem_append_right _ (List.mem_append_right _ (List.mem_append_right _ (List.mem_append_right _ h)))))))
theorem qs0 : (Cond.selects "java/lang/NullPointerException" ⟨"java/lang/NullPointerException", "getExtendedNPEMessage", "()Ljava/lang/String;"⟩ ⟨"java/lang/NullPointerException", "getExtendedNPEMessage", "()Ljava/lang/String;"⟩) ∈ lw_all := lw_g (lw_at lw_ms 0 rfl) rfl
theorem qs1 : (Cond.selects "java/lang/Throwable" ⟨"java/lang/Throwable", "fillInStackTrace", "(I)Ljava/lang/Throwable;"⟩ ⟨"java/lang/Throwable", "fillInStackTrace", "(I)Ljava/lang/Throwable;"⟩) ∈ lw_all := lw_g (lw_at lw_ms 1 rfl) rfl
theorem qs2 : (Cond.selects "LeftIsAgreedOn" ⟨"LeftIsAgreedOn", "no", "(I)I"⟩ ⟨"LeftIsAgreedOn", "no", "(I)I"⟩) ∈ lw_all := lw_g (lw_at lw_ms 2 rfl) rfl
theorem qs3 : (Cond.selects "LeftIsAgreedOn" ⟨"LeftIsAgreedOn", "rowIn", "(I)Ljava/lang/Object;"⟩ ⟨"LeftIsAgreedOn", "rowIn", "(I)Ljava/lang/Object;"⟩) ∈ lw_all := lw_g (lw_at lw_ms 3 rfl) rfl
theorem qs4 : (Cond.selects "LeftIsAgreedOn" ⟨"LeftIsAgreedOn", "leftOf", "(LLeftIsAgreedOn$Voter;)I"⟩ ⟨"LeftIsAgreedOn", "leftOf", "(LLeftIsAgreedOn$Voter;)I"⟩) ∈ lw_all := lw_g (lw_at lw_ms 4 rfl) rfl
theorem qs5 : (Cond.selects "LeftIsAgreedOn$Reader" ⟨"LeftIsAgreedOn$Reader", "next", "()V"⟩ ⟨"LeftIsAgreedOn$Reader", "next", "()V"⟩) ∈ lw_all := lw_g (lw_at lw_ms 5 rfl) rfl
theorem qs6 : (Cond.selects "LeftIsAgreedOn$Reader" ⟨"LeftIsAgreedOn$Reader", "isIn", "(II)Z"⟩ ⟨"LeftIsAgreedOn$Reader", "isIn", "(II)Z"⟩) ∈ lw_all := lw_g (lw_at lw_ms 6 rfl) rfl
theorem qs7 : (Cond.selects "LeftIsAgreedOn$Reader" ⟨"LeftIsAgreedOn$Reader", "item", "()V"⟩ ⟨"LeftIsAgreedOn$Reader", "item", "()V"⟩) ∈ lw_all := lw_g (lw_at lw_ms 7 rfl) rfl
theorem qs8 : (Cond.selects "LeftIsAgreedOn$Reader" ⟨"LeftIsAgreedOn$Reader", "wrong", "()LLeftIsAgreedOn$Fault;"⟩ ⟨"LeftIsAgreedOn$Reader", "wrong", "()LLeftIsAgreedOn$Fault;"⟩) ∈ lw_all := lw_g (lw_at lw_ms 8 rfl) rfl
theorem qs9 : (Cond.selects "LeftIsAgreedOn$Reader" ⟨"LeftIsAgreedOn$Reader", "number", "(II)I"⟩ ⟨"LeftIsAgreedOn$Reader", "number", "(II)I"⟩) ∈ lw_all := lw_g (lw_at lw_ms 9 rfl) rfl
theorem qs10 : (Cond.selects "LeftIsAgreedOn$Reader" ⟨"LeftIsAgreedOn$Reader", "need", "(Z)V"⟩ ⟨"LeftIsAgreedOn$Reader", "need", "(Z)V"⟩) ∈ lw_all := lw_g (lw_at lw_ms 10 rfl) rfl
theorem qs11 : (Cond.selects "LeftIsAgreedOn$Reader" ⟨"LeftIsAgreedOn$Reader", "cell", "()I"⟩ ⟨"LeftIsAgreedOn$Reader", "cell", "()I"⟩) ∈ lw_all := lw_g (lw_at lw_ms 11 rfl) rfl
theorem qs12 : (Cond.selects "LeftIsAgreedOn$Reader" ⟨"LeftIsAgreedOn$Reader", "adds", "()V"⟩ ⟨"LeftIsAgreedOn$Reader", "adds", "()V"⟩) ∈ lw_all := lw_g (lw_at lw_ms 12 rfl) rfl
theorem qs13 : (Cond.selects "LeftIsAgreedOn$Reader" ⟨"LeftIsAgreedOn$Reader", "told", "(II)V"⟩ ⟨"LeftIsAgreedOn$Reader", "told", "(II)V"⟩) ∈ lw_all := lw_g (lw_at lw_ms 13 rfl) rfl
theorem qs14 : (Cond.selects "LeftIsAgreedOn$Reader" ⟨"LeftIsAgreedOn$Reader", "takes", "(Ljava/lang/String;)Z"⟩ ⟨"LeftIsAgreedOn$Reader", "takes", "(Ljava/lang/String;)Z"⟩) ∈ lw_all := lw_g (lw_at lw_ms 14 rfl) rfl
theorem qs15 : (Cond.selects "LeftIsAgreedOn" ⟨"LeftIsAgreedOn", "becomes", "(LLeftIsAgreedOn$Island;)V"⟩ ⟨"LeftIsAgreedOn", "becomes", "(LLeftIsAgreedOn$Island;)V"⟩) ∈ lw_all := lw_g (lw_at lw_ms 15 rfl) rfl
theorem qs16 : (Cond.selects "LeftIsAgreedOn" ⟨"LeftIsAgreedOn", "power", "(I)I"⟩ ⟨"LeftIsAgreedOn", "power", "(I)I"⟩) ∈ lw_all := lw_g (lw_at lw_ms 16 rfl) rfl
theorem qs17 : (Cond.selects "LeftIsAgreedOn" ⟨"LeftIsAgreedOn", "toldIn", "(ZII)[J"⟩ ⟨"LeftIsAgreedOn", "toldIn", "(ZII)[J"⟩) ∈ lw_all := lw_g (lw_at lw_ms 17 rfl) rfl
theorem qs18 : (Cond.selects "LeftIsAgreedOn" ⟨"LeftIsAgreedOn", "signsIn", "(ZII)[J"⟩ ⟨"LeftIsAgreedOn", "signsIn", "(ZII)[J"⟩) ∈ lw_all := lw_g (lw_at lw_ms 18 rfl) rfl
theorem qs19 : (Cond.selects "LeftIsAgreedOn" ⟨"LeftIsAgreedOn", "walkedBy", "(I[J)LLeftIsAgreedOn$Walk;"⟩ ⟨"LeftIsAgreedOn", "walkedBy", "(I[J)LLeftIsAgreedOn$Walk;"⟩) ∈ lw_all := lw_g (lw_at lw_ms 19 rfl) rfl
theorem qs20 : (Cond.selects "LeftIsAgreedOn" ⟨"LeftIsAgreedOn", "walked", "(LLeftIsAgreedOn$Voter;I[JI)LLeftIsAgreedOn$Walk;"⟩ ⟨"LeftIsAgreedOn", "walked", "(LLeftIsAgreedOn$Voter;I[JI)LLeftIsAgreedOn$Walk;"⟩) ∈ lw_all := lw_g (lw_at lw_ms 20 rfl) rfl
theorem qs21 : (Cond.selects "LeftIsAgreedOn" ⟨"LeftIsAgreedOn", "marks", "(LLeftIsAgreedOn$Voter;II)V"⟩ ⟨"LeftIsAgreedOn", "marks", "(LLeftIsAgreedOn$Voter;II)V"⟩) ∈ lw_all := lw_g (lw_at lw_ms 21 rfl) rfl
theorem qs22 : (Cond.selects "LeftIsAgreedOn" ⟨"LeftIsAgreedOn", "shortest", "(IIZ)I"⟩ ⟨"LeftIsAgreedOn", "shortest", "(IIZ)I"⟩) ∈ lw_all := lw_g (lw_at lw_ms 22 rfl) rfl
theorem qs23 : (Cond.selects "LeftIsAgreedOn" ⟨"LeftIsAgreedOn", "brings", "(LLeftIsAgreedOn$Voter;IZII)Z"⟩ ⟨"LeftIsAgreedOn", "brings", "(LLeftIsAgreedOn$Voter;IZII)Z"⟩) ∈ lw_all := lw_g (lw_at lw_ms 23 rfl) rfl
theorem qs24 : (Cond.selects "LeftIsAgreedOn" ⟨"LeftIsAgreedOn", "both", "(IIIIIIZ)I"⟩ ⟨"LeftIsAgreedOn", "both", "(IIIIIIZ)I"⟩) ∈ lw_all := lw_g (lw_at lw_ms 24 rfl) rfl
theorem qs25 : (Cond.selects "LeftIsAgreedOn" ⟨"LeftIsAgreedOn", "rowFor", "(II)Ljava/lang/Object;"⟩ ⟨"LeftIsAgreedOn", "rowFor", "(II)Ljava/lang/Object;"⟩) ∈ lw_all := lw_g (lw_at lw_ms 25 rfl) rfl
theorem qs26 : (Cond.selects "LeftIsAgreedOn" ⟨"LeftIsAgreedOn", "met", "(I[JI[JI)I"⟩ ⟨"LeftIsAgreedOn", "met", "(I[JI[JI)I"⟩) ∈ lw_all := lw_g (lw_at lw_ms 26 rfl) rfl
theorem qs27 : (Cond.selects "LeftIsAgreedOn" ⟨"LeftIsAgreedOn", "shelved", "()I"⟩ ⟨"LeftIsAgreedOn", "shelved", "()I"⟩) ∈ lw_all := lw_g (lw_at lw_ms 27 rfl) rfl
theorem qs28 : (Cond.selects "LeftIsAgreedOnModel" ⟨"LeftIsAgreedOnModel", "refuse", "(I)I"⟩ ⟨"LeftIsAgreedOnModel", "refuse", "(I)I"⟩) ∈ lw_all := lw_g (lw_at lw_ms 28 rfl) rfl
theorem qs29 : (Cond.selects "LeftIsAgreedOnModel" ⟨"LeftIsAgreedOnModel", "isCell", "(I)Z"⟩ ⟨"LeftIsAgreedOnModel", "isCell", "(I)Z"⟩) ∈ lw_all := lw_g (lw_at lw_ms 29 rfl) rfl
theorem qs30 : (Cond.selects "LeftIsAgreedOnModel" ⟨"LeftIsAgreedOnModel", "isSomebody", "(I)Z"⟩ ⟨"LeftIsAgreedOnModel", "isSomebody", "(I)Z"⟩) ∈ lw_all := lw_g (lw_at lw_ms 30 rfl) rfl
theorem qs31 : (Cond.selects "LeftIsAgreedOnModel" ⟨"LeftIsAgreedOnModel", "many", "()I"⟩ ⟨"LeftIsAgreedOnModel", "many", "()I"⟩) ∈ lw_all := lw_g (lw_at lw_ms 31 rfl) rfl
theorem qs32 : (Cond.selects "LeftIsAgreedOnModel" ⟨"LeftIsAgreedOnModel", "cell", "(I)I"⟩ ⟨"LeftIsAgreedOnModel", "cell", "(I)I"⟩) ∈ lw_all := lw_g (lw_at lw_ms 32 rfl) rfl
theorem qs33 : (Cond.selects "LeftIsAgreedOnModel" ⟨"LeftIsAgreedOnModel", "hasPond", "(I)Z"⟩ ⟨"LeftIsAgreedOnModel", "hasPond", "(I)Z"⟩) ∈ lw_all := lw_g (lw_at lw_ms 33 rfl) rfl
theorem qs34 : (Cond.selects "LeftIsAgreedOnModel" ⟨"LeftIsAgreedOnModel", "add", "(IIII)I"⟩ ⟨"LeftIsAgreedOnModel", "add", "(IIII)I"⟩) ∈ lw_all := lw_g (lw_at lw_ms 34 rfl) rfl
theorem qs35 : (Cond.selects "LeftIsAgreedOnModel" ⟨"LeftIsAgreedOnModel", "isPerson", "(I)Z"⟩ ⟨"LeftIsAgreedOnModel", "isPerson", "(I)Z"⟩) ∈ lw_all := lw_g (lw_at lw_ms 35 rfl) rfl
theorem qs36 : (Cond.selects "LeftIsAgreedOnModel" ⟨"LeftIsAgreedOnModel", "isFor", "(I)I"⟩ ⟨"LeftIsAgreedOnModel", "isFor", "(I)I"⟩) ∈ lw_all := lw_g (lw_at lw_ms 36 rfl) rfl
theorem qs37 : (Cond.selects "LeftIsAgreedOnModel" ⟨"LeftIsAgreedOnModel", "isStatement", "()Z"⟩ ⟨"LeftIsAgreedOnModel", "isStatement", "()Z"⟩) ∈ lw_all := lw_g (lw_at lw_ms 37 rfl) rfl
theorem qs38 : (Cond.selects "LeftIsAgreedOnModel" ⟨"LeftIsAgreedOnModel", "next", "()V"⟩ ⟨"LeftIsAgreedOnModel", "next", "()V"⟩) ∈ lw_all := lw_g (lw_at lw_ms 38 rfl) rfl
theorem qs39 : (Cond.selects "LeftIsAgreedOnModel" ⟨"LeftIsAgreedOnModel", "sortAt", "(I)I"⟩ ⟨"LeftIsAgreedOnModel", "sortAt", "(I)I"⟩) ∈ lw_all := lw_g (lw_at lw_ms 39 rfl) rfl
theorem qs40 : (Cond.selects "LeftIsAgreedOnModel" ⟨"LeftIsAgreedOnModel", "word", "()I"⟩ ⟨"LeftIsAgreedOnModel", "word", "()I"⟩) ∈ lw_all := lw_g (lw_at lw_ms 40 rfl) rfl
theorem qs41 : (Cond.selects "LeftIsAgreedOnModel" ⟨"LeftIsAgreedOnModel", "isPersonStatement", "()Z"⟩ ⟨"LeftIsAgreedOnModel", "isPersonStatement", "()Z"⟩) ∈ lw_all := lw_g (lw_at lw_ms 41 rfl) rfl
theorem qs42 : (Cond.selects "LeftIsAgreedOnModel" ⟨"LeftIsAgreedOnModel", "number", "(II)I"⟩ ⟨"LeftIsAgreedOnModel", "number", "(II)I"⟩) ∈ lw_all := lw_g (lw_at lw_ms 42 rfl) rfl
theorem qs43 : (Cond.selects "LeftIsAgreedOnModel" ⟨"LeftIsAgreedOnModel", "cellNumber", "()I"⟩ ⟨"LeftIsAgreedOnModel", "cellNumber", "()I"⟩) ∈ lw_all := lw_g (lw_at lw_ms 43 rfl) rfl
theorem qs44 : (Cond.selects "LeftIsAgreedOnModel" ⟨"LeftIsAgreedOnModel", "rowIn", "(I)I"⟩ ⟨"LeftIsAgreedOnModel", "rowIn", "(I)I"⟩) ∈ lw_all := lw_g (lw_at lw_ms 44 rfl) rfl
theorem qs45 : (Cond.selects "LeftIsAgreedOnModel" ⟨"LeftIsAgreedOnModel", "kind", "(I)I"⟩ ⟨"LeftIsAgreedOnModel", "kind", "(I)I"⟩) ∈ lw_all := lw_g (lw_at lw_ms 45 rfl) rfl
theorem qs46 : (Cond.selects "LeftIsAgreedOnModel" ⟨"LeftIsAgreedOnModel", "a", "(I)I"⟩ ⟨"LeftIsAgreedOnModel", "a", "(I)I"⟩) ∈ lw_all := lw_g (lw_at lw_ms 46 rfl) rfl
theorem qs47 : (Cond.selects "LeftIsAgreedOnModel" ⟨"LeftIsAgreedOnModel", "faces", "(I)I"⟩ ⟨"LeftIsAgreedOnModel", "faces", "(I)I"⟩) ∈ lw_all := lw_g (lw_at lw_ms 47 rfl) rfl
theorem qs48 : (Cond.selects "LeftIsAgreedOnModel" ⟨"LeftIsAgreedOnModel", "start", "(III)V"⟩ ⟨"LeftIsAgreedOnModel", "start", "(III)V"⟩) ∈ lw_all := lw_g (lw_at lw_ms 48 rfl) rfl
theorem qs49 : (Cond.selects "LeftIsAgreedOnModel" ⟨"LeftIsAgreedOnModel", "step", "(IIII)V"⟩ ⟨"LeftIsAgreedOnModel", "step", "(IIII)V"⟩) ∈ lw_all := lw_g (lw_at lw_ms 49 rfl) rfl
theorem qs50 : (Cond.selects "LeftIsAgreedOnModel" ⟨"LeftIsAgreedOnModel", "beside", "(II)I"⟩ ⟨"LeftIsAgreedOnModel", "beside", "(II)I"⟩) ∈ lw_all := lw_g (lw_at lw_ms 50 rfl) rfl
theorem qs51 : (Cond.selects "LeftIsAgreedOnModel" ⟨"LeftIsAgreedOnModel", "goesBy", "(III)I"⟩ ⟨"LeftIsAgreedOnModel", "goesBy", "(III)I"⟩) ∈ lw_all := lw_g (lw_at lw_ms 51 rfl) rfl
theorem qs52 : (Cond.selects "LeftIsAgreedOnModel" ⟨"LeftIsAgreedOnModel", "isShore", "(I)Z"⟩ ⟨"LeftIsAgreedOnModel", "isShore", "(I)Z"⟩) ∈ lw_all := lw_g (lw_at lw_ms 52 rfl) rfl
theorem qs53 : (Cond.selects "LeftIsAgreedOnModel" ⟨"LeftIsAgreedOnModel", "loadIf", "(ZII)I"⟩ ⟨"LeftIsAgreedOnModel", "loadIf", "(ZII)I"⟩) ∈ lw_all := lw_g (lw_at lw_ms 53 rfl) rfl
theorem qs54 : (Cond.selects "LeftIsAgreedOnModel" ⟨"LeftIsAgreedOnModel", "load", "(II)I"⟩ ⟨"LeftIsAgreedOnModel", "load", "(II)I"⟩) ∈ lw_all := lw_g (lw_at lw_ms 54 rfl) rfl
theorem qs55 : (Cond.selects "LeftIsAgreedOnModel" ⟨"LeftIsAgreedOnModel", "go", "(II)V"⟩ ⟨"LeftIsAgreedOnModel", "go", "(II)V"⟩) ∈ lw_all := lw_g (lw_at lw_ms 55 rfl) rfl
theorem qs56 : (Cond.selects "LeftIsAgreedOnModel" ⟨"LeftIsAgreedOnModel", "spell", "(II)V"⟩ ⟨"LeftIsAgreedOnModel", "spell", "(II)V"⟩) ∈ lw_all := lw_g (lw_at lw_ms 56 rfl) rfl
theorem qs57 : (Cond.selects "LeftIsAgreedOnModel" ⟨"LeftIsAgreedOnModel", "brings", "(IIII)Z"⟩ ⟨"LeftIsAgreedOnModel", "brings", "(IIII)Z"⟩) ∈ lw_all := lw_g (lw_at lw_ms 57 rfl) rfl
theorem qs58 : (Cond.selects "LeftIsAgreedOnModel" ⟨"LeftIsAgreedOnModel", "comeOut", "(I)V"⟩ ⟨"LeftIsAgreedOnModel", "comeOut", "(I)V"⟩) ∈ lw_all := lw_g (lw_at lw_ms 58 rfl) rfl
theorem qs59 : (Cond.selects "LeftIsAgreedOnModel" ⟨"LeftIsAgreedOnModel", "outIn", "(I)I"⟩ ⟨"LeftIsAgreedOnModel", "outIn", "(I)I"⟩) ∈ lw_all := lw_g (lw_at lw_ms 59 rfl) rfl
theorem qs60 : (Cond.selects "LeftIsAgreedOnModel" ⟨"LeftIsAgreedOnModel", "weigh", "(I)I"⟩ ⟨"LeftIsAgreedOnModel", "weigh", "(I)I"⟩) ∈ lw_all := lw_g (lw_at lw_ms 60 rfl) rfl
theorem qs61 : (Cond.selects "LeftIsAgreedOnModel" ⟨"LeftIsAgreedOnModel", "power", "(I)I"⟩ ⟨"LeftIsAgreedOnModel", "power", "(I)I"⟩) ∈ lw_all := lw_g (lw_at lw_ms 61 rfl) rfl
theorem qs62 : (Cond.selects "LeftIsAgreedOnModel" ⟨"LeftIsAgreedOnModel", "change", "(I)V"⟩ ⟨"LeftIsAgreedOnModel", "change", "(I)V"⟩) ∈ lw_all := lw_g (lw_at lw_ms 62 rfl) rfl
theorem qs63 : (Cond.selects "LeftIsAgreedOnModel" ⟨"LeftIsAgreedOnModel", "loadBoth", "(IIIIII)I"⟩ ⟨"LeftIsAgreedOnModel", "loadBoth", "(IIIIII)I"⟩) ∈ lw_all := lw_g (lw_at lw_ms 63 rfl) rfl
theorem qs64 : (Cond.selects "LeftIsAgreedOnModel" ⟨"LeftIsAgreedOnModel", "met", "(IIIII)I"⟩ ⟨"LeftIsAgreedOnModel", "met", "(IIIII)I"⟩) ∈ lw_all := lw_g (lw_at lw_ms 64 rfl) rfl
theorem qs65 : (Cond.selects "LeftIsAgreedOnModel" ⟨"LeftIsAgreedOnModel", "draw", "(I)I"⟩ ⟨"LeftIsAgreedOnModel", "draw", "(I)I"⟩) ∈ lw_all := lw_g (lw_at lw_ms 65 rfl) rfl
