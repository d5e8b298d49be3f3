-- ===== PART A: goes FIRST, ahead of the names: the tables' words, and 'selects' of the private methods out of them =====
/-- a private method of a class that the tables say can be made, by its rows of tables_1 -/
def lw_okq (q : MethodName × Nat) : Prop := (q.1.cls ≠ "java/lang/invoke/MethodHandle" ∧ q.1.cls ≠ "java/lang/invoke/VarHandle") ∧ Cond.instantiable q.1.cls q.2 ∈ tables_1 ∧ Cond.privateMethod q.1 ∈ tables_1 ∧ Cond.instanceMethod q.1 ∈ tables_1
set_option maxRecDepth 100000
theorem lw_t1 {w : Cond} (h : w ∈ tables_1_1) : w ∈ tables_1 := List.mem_append_left _ h
theorem lw_t2 {w : Cond} (h : w ∈ tables_1_2) : w ∈ tables_1 := List.mem_append_right _ (List.mem_append_left _ h)
theorem lw_t3 {w : Cond} (h : w ∈ tables_1_3) : w ∈ tables_1 := List.mem_append_right _ (List.mem_append_right _ (List.mem_append_left _ h))
theorem lw_t4 {w : Cond} (h : w ∈ tables_1_4) : w ∈ tables_1 := List.mem_append_right _ (List.mem_append_right _ (List.mem_append_right _ (List.mem_append_left _ h)))
theorem lw_t5 {w : Cond} (h : w ∈ tables_1_5) : w ∈ tables_1 := List.mem_append_right _ (List.mem_append_right _ (List.mem_append_right _ (List.mem_append_right _ (List.mem_append_left _ h))))
theorem lw_t6 {w : Cond} (h : w ∈ tables_1_6) : w ∈ tables_1 := List.mem_append_right _ (List.mem_append_right _ (List.mem_append_right _ (List.mem_append_right _ (List.mem_append_right _ (List.mem_append_left _ h)))))
theorem lw_t7 {w : Cond} (h : w ∈ tables_1_7) : w ∈ tables_1 := List.mem_append_right _ (List.mem_append_right _ (List.mem_append_right _ (List.mem_append_right _ (List.mem_append_right _ (List.mem_append_right _ h)))))
theorem lw_p0 : lw_okq (⟨"java/lang/Throwable", "fillInStackTrace", "(I)Ljava/lang/Throwable;"⟩, 6) := ⟨⟨by decide +kernel, by decide +kernel⟩, lw_t1 (List.mem_of_getElem? (i := 71) rfl), lw_t1 (List.mem_of_getElem? (i := 69) rfl), lw_t1 (List.mem_of_getElem? (i := 70) rfl)⟩
theorem lw_p1 : lw_okq (⟨"LineCalls", "made", "(II)LLineCalls$Jumper;"⟩, 12) := ⟨⟨by decide +kernel, by decide +kernel⟩, lw_t1 (List.mem_of_getElem? (i := 26) rfl), lw_t1 (List.mem_of_getElem? (i := 228) rfl), lw_t1 (List.mem_of_getElem? (i := 229) rfl)⟩
theorem lw_p2 : lw_okq (⟨"LineCalls", "isJumper", "(I)Z"⟩, 12) := ⟨⟨by decide +kernel, by decide +kernel⟩, lw_t1 (List.mem_of_getElem? (i := 26) rfl), lw_t2 (List.mem_of_getElem? (i := 134) rfl), lw_t2 (List.mem_of_getElem? (i := 135) rfl)⟩
theorem lw_p3 : lw_okq (⟨"LineCalls", "finding", "(I)I"⟩, 12) := ⟨⟨by decide +kernel, by decide +kernel⟩, lw_t1 (List.mem_of_getElem? (i := 26) rfl), lw_t2 (List.mem_of_getElem? (i := 138) rfl), lw_t2 (List.mem_of_getElem? (i := 139) rfl)⟩
theorem lw_p4 : lw_okq (⟨"LineCalls", "jumperOf", "(I)LLineCalls$Jumper;"⟩, 12) := ⟨⟨by decide +kernel, by decide +kernel⟩, lw_t1 (List.mem_of_getElem? (i := 26) rfl), lw_t2 (List.mem_of_getElem? (i := 221) rfl), lw_t2 (List.mem_of_getElem? (i := 222) rfl)⟩
theorem lw_p5 : lw_okq (⟨"LineCalls", "goesOn", "(I)I"⟩, 12) := ⟨⟨by decide +kernel, by decide +kernel⟩, lw_t1 (List.mem_of_getElem? (i := 26) rfl), lw_t3 (List.mem_of_getElem? (i := 136) rfl), lw_t3 (List.mem_of_getElem? (i := 137) rfl)⟩
theorem lw_p6 : lw_okq (⟨"LineCalls", "passes", "(I)V"⟩, 12) := ⟨⟨by decide +kernel, by decide +kernel⟩, lw_t1 (List.mem_of_getElem? (i := 26) rfl), lw_t3 (List.mem_of_getElem? (i := 140) rfl), lw_t3 (List.mem_of_getElem? (i := 141) rfl)⟩
theorem lw_p7 : lw_okq (⟨"LineCalls", "passes", "()V"⟩, 12) := ⟨⟨by decide +kernel, by decide +kernel⟩, lw_t1 (List.mem_of_getElem? (i := 26) rfl), lw_t3 (List.mem_of_getElem? (i := 144) rfl), lw_t3 (List.mem_of_getElem? (i := 145) rfl)⟩
theorem lw_p8 : lw_okq (⟨"LineCalls", "wouldWin", "(I)Z"⟩, 12) := ⟨⟨by decide +kernel, by decide +kernel⟩, lw_t1 (List.mem_of_getElem? (i := 26) rfl), lw_t3 (List.mem_of_getElem? (i := 158) rfl), lw_t3 (List.mem_of_getElem? (i := 159) rfl)⟩
theorem lw_p9 : lw_okq (⟨"LineCalls", "won", "()I"⟩, 12) := ⟨⟨by decide +kernel, by decide +kernel⟩, lw_t1 (List.mem_of_getElem? (i := 26) rfl), lw_t3 (List.mem_of_getElem? (i := 186) rfl), lw_t3 (List.mem_of_getElem? (i := 187) rfl)⟩
theorem lw_p10 : lw_okq (⟨"LineCalls", "toldBehind", "(III)I"⟩, 12) := ⟨⟨by decide +kernel, by decide +kernel⟩, lw_t1 (List.mem_of_getElem? (i := 26) rfl), lw_t3 (List.mem_of_getElem? (i := 201) rfl), lw_t3 (List.mem_of_getElem? (i := 202) rfl)⟩
theorem lw_p11 : lw_okq (⟨"LineCalls", "toldOf", "(II)I"⟩, 12) := ⟨⟨by decide +kernel, by decide +kernel⟩, lw_t1 (List.mem_of_getElem? (i := 26) rfl), lw_t3 (List.mem_of_getElem? (i := 218) rfl), lw_t3 (List.mem_of_getElem? (i := 219) rfl)⟩
theorem lw_p12 : lw_okq (⟨"LineCalls", "metresBehind", "(I)I"⟩, 12) := ⟨⟨by decide +kernel, by decide +kernel⟩, lw_t1 (List.mem_of_getElem? (i := 26) rfl), lw_t3 (List.mem_of_getElem? (i := 226) rfl), lw_t3 (List.mem_of_getElem? (i := 227) rfl)⟩
theorem lw_p13 : lw_okq (⟨"LineCalls", "wonBehind", "(II)I"⟩, 12) := ⟨⟨by decide +kernel, by decide +kernel⟩, lw_t1 (List.mem_of_getElem? (i := 26) rfl), lw_t3 (List.mem_of_getElem? (i := 234) rfl), lw_t3 (List.mem_of_getElem? (i := 235) rfl)⟩
theorem lw_p14 : lw_okq (⟨"LineCalls", "orNone", "(I)I"⟩, 12) := ⟨⟨by decide +kernel, by decide +kernel⟩, lw_t1 (List.mem_of_getElem? (i := 26) rfl), lw_t3 (List.mem_of_getElem? (i := 238) rfl), lw_t3 (List.mem_of_getElem? (i := 239) rfl)⟩
theorem lw_p15 : lw_okq (⟨"LineCalls", "knownBehind", "()I"⟩, 12) := ⟨⟨by decide +kernel, by decide +kernel⟩, lw_t1 (List.mem_of_getElem? (i := 26) rfl), lw_t4 (List.mem_of_getElem? (i := 6) rfl), lw_t4 (List.mem_of_getElem? (i := 7) rfl)⟩
def lw_privs_1 : List (MethodName × Nat) := [(⟨"java/lang/Throwable", "fillInStackTrace", "(I)Ljava/lang/Throwable;"⟩, 6), (⟨"LineCalls", "made", "(II)LLineCalls$Jumper;"⟩, 12), (⟨"LineCalls", "isJumper", "(I)Z"⟩, 12), (⟨"LineCalls", "finding", "(I)I"⟩, 12), (⟨"LineCalls", "jumperOf", "(I)LLineCalls$Jumper;"⟩, 12), (⟨"LineCalls", "goesOn", "(I)I"⟩, 12), (⟨"LineCalls", "passes", "(I)V"⟩, 12), (⟨"LineCalls", "passes", "()V"⟩, 12), (⟨"LineCalls", "wouldWin", "(I)Z"⟩, 12), (⟨"LineCalls", "won", "()I"⟩, 12), (⟨"LineCalls", "toldBehind", "(III)I"⟩, 12), (⟨"LineCalls", "toldOf", "(II)I"⟩, 12), (⟨"LineCalls", "metresBehind", "(I)I"⟩, 12), (⟨"LineCalls", "wonBehind", "(II)I"⟩, 12), (⟨"LineCalls", "orNone", "(I)I"⟩, 12), (⟨"LineCalls", "knownBehind", "()I"⟩, 12)]
theorem lw_r1 : ∀ q ∈ lw_privs_1, lw_okq q := List.forall_mem_cons.mpr ⟨lw_p0, List.forall_mem_cons.mpr ⟨lw_p1, List.forall_mem_cons.mpr ⟨lw_p2, List.forall_mem_cons.mpr ⟨lw_p3, List.forall_mem_cons.mpr ⟨lw_p4, List.forall_mem_cons.mpr ⟨lw_p5, List.forall_mem_cons.mpr ⟨lw_p6, List.forall_mem_cons.mpr ⟨lw_p7, List.forall_mem_cons.mpr ⟨lw_p8, List.forall_mem_cons.mpr ⟨lw_p9, List.forall_mem_cons.mpr ⟨lw_p10, List.forall_mem_cons.mpr ⟨lw_p11, List.forall_mem_cons.mpr ⟨lw_p12, List.forall_mem_cons.mpr ⟨lw_p13, List.forall_mem_cons.mpr ⟨lw_p14, List.forall_mem_cons.mpr ⟨lw_p15, fun _ h => absurd h List.not_mem_nil⟩⟩⟩⟩⟩⟩⟩⟩⟩⟩⟩⟩⟩⟩⟩⟩
theorem lw_p16 : lw_okq (⟨"LineCalls", "bestCode", "(I)I"⟩, 12) := ⟨⟨by decide +kernel, by decide +kernel⟩, lw_t1 (List.mem_of_getElem? (i := 26) rfl), lw_t4 (List.mem_of_getElem? (i := 14) rfl), lw_t4 (List.mem_of_getElem? (i := 15) rfl)⟩
theorem lw_p17 : lw_okq (⟨"LineCalls", "bestCall", "(I)I"⟩, 12) := ⟨⟨by decide +kernel, by decide +kernel⟩, lw_t1 (List.mem_of_getElem? (i := 26) rfl), lw_t4 (List.mem_of_getElem? (i := 23) rfl), lw_t4 (List.mem_of_getElem? (i := 24) rfl)⟩
theorem lw_p18 : lw_okq (⟨"LineCalls", "areOne", "(II)Z"⟩, 12) := ⟨⟨by decide +kernel, by decide +kernel⟩, lw_t1 (List.mem_of_getElem? (i := 26) rfl), lw_t4 (List.mem_of_getElem? (i := 31) rfl), lw_t4 (List.mem_of_getElem? (i := 32) rfl)⟩
theorem lw_p19 : lw_okq (⟨"LineCalls", "bestPlace", "(II)I"⟩, 12) := ⟨⟨by decide +kernel, by decide +kernel⟩, lw_t1 (List.mem_of_getElem? (i := 26) rfl), lw_t4 (List.mem_of_getElem? (i := 35) rfl), lw_t4 (List.mem_of_getElem? (i := 36) rfl)⟩
theorem lw_p20 : lw_okq (⟨"LineCalls", "metresFrom", "(III)I"⟩, 12) := ⟨⟨by decide +kernel, by decide +kernel⟩, lw_t1 (List.mem_of_getElem? (i := 26) rfl), lw_t4 (List.mem_of_getElem? (i := 39) rfl), lw_t4 (List.mem_of_getElem? (i := 40) rfl)⟩
theorem lw_p21 : lw_okq (⟨"LineCalls", "bestKind", "(II)I"⟩, 12) := ⟨⟨by decide +kernel, by decide +kernel⟩, lw_t1 (List.mem_of_getElem? (i := 26) rfl), lw_t4 (List.mem_of_getElem? (i := 51) rfl), lw_t4 (List.mem_of_getElem? (i := 52) rfl)⟩
theorem lw_p22 : lw_okq (⟨"LineCalls", "leastTall", "(III)I"⟩, 12) := ⟨⟨by decide +kernel, by decide +kernel⟩, lw_t1 (List.mem_of_getElem? (i := 26) rfl), lw_t4 (List.mem_of_getElem? (i := 59) rfl), lw_t4 (List.mem_of_getElem? (i := 60) rfl)⟩
theorem lw_p23 : lw_okq (⟨"LineCalls", "rowAt", "(I)Ljava/lang/Object;"⟩, 12) := ⟨⟨by decide +kernel, by decide +kernel⟩, lw_t1 (List.mem_of_getElem? (i := 26) rfl), lw_t4 (List.mem_of_getElem? (i := 71) rfl), lw_t4 (List.mem_of_getElem? (i := 72) rfl)⟩
theorem lw_p24 : lw_okq (⟨"LineCalls", "need", "(ZI)V"⟩, 12) := ⟨⟨by decide +kernel, by decide +kernel⟩, lw_t1 (List.mem_of_getElem? (i := 26) rfl), lw_t4 (List.mem_of_getElem? (i := 78) rfl), lw_t4 (List.mem_of_getElem? (i := 79) rfl)⟩
theorem lw_p25 : lw_okq (⟨"LineCalls", "refused", "(I)LLineCalls$Refusal;"⟩, 12) := ⟨⟨by decide +kernel, by decide +kernel⟩, lw_t1 (List.mem_of_getElem? (i := 26) rfl), lw_t4 (List.mem_of_getElem? (i := 82) rfl), lw_t4 (List.mem_of_getElem? (i := 83) rfl)⟩
theorem lw_p26 : lw_okq (⟨"LineCalls", "codesThatFit", "(Ljava/lang/Object;)I"⟩, 12) := ⟨⟨by decide +kernel, by decide +kernel⟩, lw_t1 (List.mem_of_getElem? (i := 26) rfl), lw_t4 (List.mem_of_getElem? (i := 86) rfl), lw_t4 (List.mem_of_getElem? (i := 87) rfl)⟩
theorem lw_p27 : lw_okq (⟨"LineCalls", "wasSo", "(Ljava/lang/Object;)Z"⟩, 12) := ⟨⟨by decide +kernel, by decide +kernel⟩, lw_t1 (List.mem_of_getElem? (i := 26) rfl), lw_t4 (List.mem_of_getElem? (i := 90) rfl), lw_t4 (List.mem_of_getElem? (i := 91) rfl)⟩
theorem lw_p28 : lw_okq (⟨"LineCalls", "rowFor", "(II)Ljava/lang/Object;"⟩, 12) := ⟨⟨by decide +kernel, by decide +kernel⟩, lw_t1 (List.mem_of_getElem? (i := 26) rfl), lw_t4 (List.mem_of_getElem? (i := 107) rfl), lw_t4 (List.mem_of_getElem? (i := 108) rfl)⟩
theorem lw_p29 : lw_okq (⟨"LineCalls", "manyFits", "(Ljava/lang/Object;I)I"⟩, 12) := ⟨⟨by decide +kernel, by decide +kernel⟩, lw_t1 (List.mem_of_getElem? (i := 26) rfl), lw_t4 (List.mem_of_getElem? (i := 111) rfl), lw_t4 (List.mem_of_getElem? (i := 112) rfl)⟩
theorem lw_p30 : lw_okq (⟨"LineCalls", "kindsThatFit", "(Ljava/lang/Object;I)I"⟩, 12) := ⟨⟨by decide +kernel, by decide +kernel⟩, lw_t1 (List.mem_of_getElem? (i := 26) rfl), lw_t4 (List.mem_of_getElem? (i := 123) rfl), lw_t4 (List.mem_of_getElem? (i := 124) rfl)⟩
theorem lw_p31 : lw_okq (⟨"LineCalls", "mixed", "(I)I"⟩, 12) := ⟨⟨by decide +kernel, by decide +kernel⟩, lw_t1 (List.mem_of_getElem? (i := 26) rfl), lw_t4 (List.mem_of_getElem? (i := 131) rfl), lw_t4 (List.mem_of_getElem? (i := 132) rfl)⟩
def lw_privs_2 : List (MethodName × Nat) := [(⟨"LineCalls", "bestCode", "(I)I"⟩, 12), (⟨"LineCalls", "bestCall", "(I)I"⟩, 12), (⟨"LineCalls", "areOne", "(II)Z"⟩, 12), (⟨"LineCalls", "bestPlace", "(II)I"⟩, 12), (⟨"LineCalls", "metresFrom", "(III)I"⟩, 12), (⟨"LineCalls", "bestKind", "(II)I"⟩, 12), (⟨"LineCalls", "leastTall", "(III)I"⟩, 12), (⟨"LineCalls", "rowAt", "(I)Ljava/lang/Object;"⟩, 12), (⟨"LineCalls", "need", "(ZI)V"⟩, 12), (⟨"LineCalls", "refused", "(I)LLineCalls$Refusal;"⟩, 12), (⟨"LineCalls", "codesThatFit", "(Ljava/lang/Object;)I"⟩, 12), (⟨"LineCalls", "wasSo", "(Ljava/lang/Object;)Z"⟩, 12), (⟨"LineCalls", "rowFor", "(II)Ljava/lang/Object;"⟩, 12), (⟨"LineCalls", "manyFits", "(Ljava/lang/Object;I)I"⟩, 12), (⟨"LineCalls", "kindsThatFit", "(Ljava/lang/Object;I)I"⟩, 12), (⟨"LineCalls", "mixed", "(I)I"⟩, 12)]
theorem lw_r2 : ∀ q ∈ lw_privs_2, lw_okq q := List.forall_mem_cons.mpr ⟨lw_p16, List.forall_mem_cons.mpr ⟨lw_p17, List.forall_mem_cons.mpr ⟨lw_p18, List.forall_mem_cons.mpr ⟨lw_p19, List.forall_mem_cons.mpr ⟨lw_p20, List.forall_mem_cons.mpr ⟨lw_p21, List.forall_mem_cons.mpr ⟨lw_p22, List.forall_mem_cons.mpr ⟨lw_p23, List.forall_mem_cons.mpr ⟨lw_p24, List.forall_mem_cons.mpr ⟨lw_p25, List.forall_mem_cons.mpr ⟨lw_p26, List.forall_mem_cons.mpr ⟨lw_p27, List.forall_mem_cons.mpr ⟨lw_p28, List.forall_mem_cons.mpr ⟨lw_p29, List.forall_mem_cons.mpr ⟨lw_p30, List.forall_mem_cons.mpr ⟨lw_p31, fun _ h => absurd h List.not_mem_nil⟩⟩⟩⟩⟩⟩⟩⟩⟩⟩⟩⟩⟩⟩⟩⟩
theorem lw_p32 : lw_okq (⟨"LineCalls", "callsFor", "(I)I"⟩, 12) := ⟨⟨by decide +kernel, by decide +kernel⟩, lw_t1 (List.mem_of_getElem? (i := 26) rfl), lw_t4 (List.mem_of_getElem? (i := 144) rfl), lw_t4 (List.mem_of_getElem? (i := 145) rfl)⟩
theorem lw_p33 : lw_okq (⟨"LineCalls$Reader", "next", "()V"⟩, 8) := ⟨⟨by decide +kernel, by decide +kernel⟩, lw_t1 (List.mem_of_getElem? (i := 102) rfl), lw_t4 (List.mem_of_getElem? (i := 172) rfl), lw_t4 (List.mem_of_getElem? (i := 173) rfl)⟩
theorem lw_p34 : lw_okq (⟨"LineCalls$Reader", "byteAt", "(I)I"⟩, 8) := ⟨⟨by decide +kernel, by decide +kernel⟩, lw_t1 (List.mem_of_getElem? (i := 102) rfl), lw_t4 (List.mem_of_getElem? (i := 176) rfl), lw_t4 (List.mem_of_getElem? (i := 177) rfl)⟩
theorem lw_p35 : lw_okq (⟨"LineCalls$Reader", "word", "()V"⟩, 8) := ⟨⟨by decide +kernel, by decide +kernel⟩, lw_t1 (List.mem_of_getElem? (i := 102) rfl), lw_t4 (List.mem_of_getElem? (i := 184) rfl), lw_t4 (List.mem_of_getElem? (i := 185) rfl)⟩
theorem lw_p36 : lw_okq (⟨"LineCalls$Reader", "isKey", "(II)Z"⟩, 8) := ⟨⟨by decide +kernel, by decide +kernel⟩, lw_t1 (List.mem_of_getElem? (i := 102) rfl), lw_t4 (List.mem_of_getElem? (i := 188) rfl), lw_t4 (List.mem_of_getElem? (i := 189) rfl)⟩
theorem lw_p37 : lw_okq (⟨"LineCalls$Reader", "need", "(Z)V"⟩, 8) := ⟨⟨by decide +kernel, by decide +kernel⟩, lw_t1 (List.mem_of_getElem? (i := 102) rfl), lw_t4 (List.mem_of_getElem? (i := 233) rfl), lw_t4 (List.mem_of_getElem? (i := 234) rfl)⟩
theorem lw_p38 : lw_okq (⟨"LineCalls$Reader", "digits", "()V"⟩, 8) := ⟨⟨by decide +kernel, by decide +kernel⟩, lw_t1 (List.mem_of_getElem? (i := 102) rfl), lw_t5 (List.mem_of_getElem? (i := 0) rfl), lw_t5 (List.mem_of_getElem? (i := 1) rfl)⟩
theorem lw_p39 : lw_okq (⟨"LineCalls$Reader", "item", "()V"⟩, 8) := ⟨⟨by decide +kernel, by decide +kernel⟩, lw_t1 (List.mem_of_getElem? (i := 102) rfl), lw_t5 (List.mem_of_getElem? (i := 4) rfl), lw_t5 (List.mem_of_getElem? (i := 5) rfl)⟩
theorem lw_p40 : lw_okq (⟨"LineCalls$Reader", "theirs", "()V"⟩, 8) := ⟨⟨by decide +kernel, by decide +kernel⟩, lw_t1 (List.mem_of_getElem? (i := 102) rfl), lw_t5 (List.mem_of_getElem? (i := 8) rfl), lw_t5 (List.mem_of_getElem? (i := 9) rfl)⟩
theorem lw_p41 : lw_okq (⟨"LineCalls$Reader", "behind", "(II)I"⟩, 8) := ⟨⟨by decide +kernel, by decide +kernel⟩, lw_t1 (List.mem_of_getElem? (i := 102) rfl), lw_t5 (List.mem_of_getElem? (i := 12) rfl), lw_t5 (List.mem_of_getElem? (i := 13) rfl)⟩
theorem lw_p42 : lw_okq (⟨"LineCalls$Reader", "number", "(II)I"⟩, 8) := ⟨⟨by decide +kernel, by decide +kernel⟩, lw_t1 (List.mem_of_getElem? (i := 102) rfl), lw_t5 (List.mem_of_getElem? (i := 16) rfl), lw_t5 (List.mem_of_getElem? (i := 17) rfl)⟩
theorem lw_p43 : lw_okq (⟨"LineCalls$Reader", "call", "()V"⟩, 8) := ⟨⟨by decide +kernel, by decide +kernel⟩, lw_t1 (List.mem_of_getElem? (i := 102) rfl), lw_t5 (List.mem_of_getElem? (i := 20) rfl), lw_t5 (List.mem_of_getElem? (i := 21) rfl)⟩
theorem lw_p44 : lw_okq (⟨"LineCalls$Reader", "jumper", "(I)V"⟩, 8) := ⟨⟨by decide +kernel, by decide +kernel⟩, lw_t1 (List.mem_of_getElem? (i := 102) rfl), lw_t5 (List.mem_of_getElem? (i := 24) rfl), lw_t5 (List.mem_of_getElem? (i := 25) rfl)⟩
theorem lw_p45 : lw_okq (⟨"LineCalls$Reader", "isWord", "(I)Z"⟩, 8) := ⟨⟨by decide +kernel, by decide +kernel⟩, lw_t1 (List.mem_of_getElem? (i := 102) rfl), lw_t5 (List.mem_of_getElem? (i := 29) rfl), lw_t5 (List.mem_of_getElem? (i := 30) rfl)⟩
theorem lw_p46 : lw_okq (⟨"LineCalls$Reader", "free", "()I"⟩, 8) := ⟨⟨by decide +kernel, by decide +kernel⟩, lw_t1 (List.mem_of_getElem? (i := 102) rfl), lw_t5 (List.mem_of_getElem? (i := 33) rfl), lw_t5 (List.mem_of_getElem? (i := 34) rfl)⟩
theorem lw_p47 : lw_okq (⟨"LineCalls", "thingAt", "(I)Ljava/lang/Object;"⟩, 12) := ⟨⟨by decide +kernel, by decide +kernel⟩, lw_t1 (List.mem_of_getElem? (i := 26) rfl), lw_t5 (List.mem_of_getElem? (i := 48) rfl), lw_t5 (List.mem_of_getElem? (i := 49) rfl)⟩
def lw_privs_3 : List (MethodName × Nat) := [(⟨"LineCalls", "callsFor", "(I)I"⟩, 12), (⟨"LineCalls$Reader", "next", "()V"⟩, 8), (⟨"LineCalls$Reader", "byteAt", "(I)I"⟩, 8), (⟨"LineCalls$Reader", "word", "()V"⟩, 8), (⟨"LineCalls$Reader", "isKey", "(II)Z"⟩, 8), (⟨"LineCalls$Reader", "need", "(Z)V"⟩, 8), (⟨"LineCalls$Reader", "digits", "()V"⟩, 8), (⟨"LineCalls$Reader", "item", "()V"⟩, 8), (⟨"LineCalls$Reader", "theirs", "()V"⟩, 8), (⟨"LineCalls$Reader", "behind", "(II)I"⟩, 8), (⟨"LineCalls$Reader", "number", "(II)I"⟩, 8), (⟨"LineCalls$Reader", "call", "()V"⟩, 8), (⟨"LineCalls$Reader", "jumper", "(I)V"⟩, 8), (⟨"LineCalls$Reader", "isWord", "(I)Z"⟩, 8), (⟨"LineCalls$Reader", "free", "()I"⟩, 8), (⟨"LineCalls", "thingAt", "(I)Ljava/lang/Object;"⟩, 12)]
theorem lw_r3 : ∀ q ∈ lw_privs_3, lw_okq q := List.forall_mem_cons.mpr ⟨lw_p32, List.forall_mem_cons.mpr ⟨lw_p33, List.forall_mem_cons.mpr ⟨lw_p34, List.forall_mem_cons.mpr ⟨lw_p35, List.forall_mem_cons.mpr ⟨lw_p36, List.forall_mem_cons.mpr ⟨lw_p37, List.forall_mem_cons.mpr ⟨lw_p38, List.forall_mem_cons.mpr ⟨lw_p39, List.forall_mem_cons.mpr ⟨lw_p40, List.forall_mem_cons.mpr ⟨lw_p41, List.forall_mem_cons.mpr ⟨lw_p42, List.forall_mem_cons.mpr ⟨lw_p43, List.forall_mem_cons.mpr ⟨lw_p44, List.forall_mem_cons.mpr ⟨lw_p45, List.forall_mem_cons.mpr ⟨lw_p46, List.forall_mem_cons.mpr ⟨lw_p47, fun _ h => absurd h List.not_mem_nil⟩⟩⟩⟩⟩⟩⟩⟩⟩⟩⟩⟩⟩⟩⟩⟩
theorem lw_p48 : lw_okq (⟨"LineCalls", "loads", "(Ljava/lang/Object;)I"⟩, 12) := ⟨⟨by decide +kernel, by decide +kernel⟩, lw_t1 (List.mem_of_getElem? (i := 26) rfl), lw_t5 (List.mem_of_getElem? (i := 103) rfl), lw_t5 (List.mem_of_getElem? (i := 104) rfl)⟩
theorem lw_p49 : lw_okq (⟨"LineCalls", "holding", "()I"⟩, 12) := ⟨⟨by decide +kernel, by decide +kernel⟩, lw_t1 (List.mem_of_getElem? (i := 26) rfl), lw_t5 (List.mem_of_getElem? (i := 127) rfl), lw_t5 (List.mem_of_getElem? (i := 128) rfl)⟩
theorem lw_p50 : lw_okq (⟨"LineCallsModel", "isJumper", "(I)Z"⟩, 25) := ⟨⟨by decide +kernel, by decide +kernel⟩, lw_t5 (List.mem_of_getElem? (i := 135) rfl), lw_t5 (List.mem_of_getElem? (i := 236) rfl), lw_t5 (List.mem_of_getElem? (i := 237) rfl)⟩
theorem lw_p51 : lw_okq (⟨"LineCallsModel", "stands", "(II)I"⟩, 25) := ⟨⟨by decide +kernel, by decide +kernel⟩, lw_t5 (List.mem_of_getElem? (i := 135) rfl), lw_t6 (List.mem_of_getElem? (i := 0) rfl), lw_t6 (List.mem_of_getElem? (i := 1) rfl)⟩
theorem lw_p52 : lw_okq (⟨"LineCallsModel", "placeOf", "(I)I"⟩, 25) := ⟨⟨by decide +kernel, by decide +kernel⟩, lw_t5 (List.mem_of_getElem? (i := 135) rfl), lw_t6 (List.mem_of_getElem? (i := 4) rfl), lw_t6 (List.mem_of_getElem? (i := 5) rfl)⟩
theorem lw_p53 : lw_okq (⟨"LineCallsModel", "finding", "(I)I"⟩, 25) := ⟨⟨by decide +kernel, by decide +kernel⟩, lw_t5 (List.mem_of_getElem? (i := 135) rfl), lw_t6 (List.mem_of_getElem? (i := 9) rfl), lw_t6 (List.mem_of_getElem? (i := 10) rfl)⟩
theorem lw_p54 : lw_okq (⟨"LineCallsModel", "force", "(I)I"⟩, 25) := ⟨⟨by decide +kernel, by decide +kernel⟩, lw_t5 (List.mem_of_getElem? (i := 135) rfl), lw_t6 (List.mem_of_getElem? (i := 17) rfl), lw_t6 (List.mem_of_getElem? (i := 18) rfl)⟩
theorem lw_p55 : lw_okq (⟨"LineCallsModel", "become", "(II)I"⟩, 25) := ⟨⟨by decide +kernel, by decide +kernel⟩, lw_t5 (List.mem_of_getElem? (i := 135) rfl), lw_t6 (List.mem_of_getElem? (i := 25) rfl), lw_t6 (List.mem_of_getElem? (i := 26) rfl)⟩
theorem lw_p56 : lw_okq (⟨"LineCallsModel", "comes", "(II)I"⟩, 25) := ⟨⟨by decide +kernel, by decide +kernel⟩, lw_t5 (List.mem_of_getElem? (i := 135) rfl), lw_t6 (List.mem_of_getElem? (i := 62) rfl), lw_t6 (List.mem_of_getElem? (i := 63) rfl)⟩
theorem lw_p57 : lw_okq (⟨"LineCallsModel", "jumperIs", "(II)I"⟩, 25) := ⟨⟨by decide +kernel, by decide +kernel⟩, lw_t5 (List.mem_of_getElem? (i := 135) rfl), lw_t6 (List.mem_of_getElem? (i := 73) rfl), lw_t6 (List.mem_of_getElem? (i := 74) rfl)⟩
theorem lw_p58 : lw_okq (⟨"LineCallsModel", "high", "(I)I"⟩, 25) := ⟨⟨by decide +kernel, by decide +kernel⟩, lw_t5 (List.mem_of_getElem? (i := 135) rfl), lw_t6 (List.mem_of_getElem? (i := 77) rfl), lw_t6 (List.mem_of_getElem? (i := 78) rfl)⟩
theorem lw_p59 : lw_okq (⟨"LineCallsModel", "tires", "(I)I"⟩, 25) := ⟨⟨by decide +kernel, by decide +kernel⟩, lw_t5 (List.mem_of_getElem? (i := 135) rfl), lw_t6 (List.mem_of_getElem? (i := 82) rfl), lw_t6 (List.mem_of_getElem? (i := 83) rfl)⟩
theorem lw_p60 : lw_okq (⟨"LineCallsModel", "gainsIn", "(II)I"⟩, 25) := ⟨⟨by decide +kernel, by decide +kernel⟩, lw_t5 (List.mem_of_getElem? (i := 135) rfl), lw_t6 (List.mem_of_getElem? (i := 97) rfl), lw_t6 (List.mem_of_getElem? (i := 98) rfl)⟩
theorem lw_p61 : lw_okq (⟨"LineCallsModel", "throwsGo", "(I)V"⟩, 25) := ⟨⟨by decide +kernel, by decide +kernel⟩, lw_t5 (List.mem_of_getElem? (i := 135) rfl), lw_t6 (List.mem_of_getElem? (i := 107) rfl), lw_t6 (List.mem_of_getElem? (i := 108) rfl)⟩
theorem lw_p62 : lw_okq (⟨"LineCallsModel", "oneThrow", "()V"⟩, 25) := ⟨⟨by decide +kernel, by decide +kernel⟩, lw_t5 (List.mem_of_getElem? (i := 135) rfl), lw_t6 (List.mem_of_getElem? (i := 111) rfl), lw_t6 (List.mem_of_getElem? (i := 112) rfl)⟩
theorem lw_p63 : lw_okq (⟨"LineCallsModel", "placeNext", "()I"⟩, 25) := ⟨⟨by decide +kernel, by decide +kernel⟩, lw_t5 (List.mem_of_getElem? (i := 135) rfl), lw_t6 (List.mem_of_getElem? (i := 115) rfl), lw_t6 (List.mem_of_getElem? (i := 116) rfl)⟩
def lw_privs_4 : List (MethodName × Nat) := [(⟨"LineCalls", "loads", "(Ljava/lang/Object;)I"⟩, 12), (⟨"LineCalls", "holding", "()I"⟩, 12), (⟨"LineCallsModel", "isJumper", "(I)Z"⟩, 25), (⟨"LineCallsModel", "stands", "(II)I"⟩, 25), (⟨"LineCallsModel", "placeOf", "(I)I"⟩, 25), (⟨"LineCallsModel", "finding", "(I)I"⟩, 25), (⟨"LineCallsModel", "force", "(I)I"⟩, 25), (⟨"LineCallsModel", "become", "(II)I"⟩, 25), (⟨"LineCallsModel", "comes", "(II)I"⟩, 25), (⟨"LineCallsModel", "jumperIs", "(II)I"⟩, 25), (⟨"LineCallsModel", "high", "(I)I"⟩, 25), (⟨"LineCallsModel", "tires", "(I)I"⟩, 25), (⟨"LineCallsModel", "gainsIn", "(II)I"⟩, 25), (⟨"LineCallsModel", "throwsGo", "(I)V"⟩, 25), (⟨"LineCallsModel", "oneThrow", "()V"⟩, 25), (⟨"LineCallsModel", "placeNext", "()I"⟩, 25)]
theorem lw_r4 : ∀ q ∈ lw_privs_4, lw_okq q := List.forall_mem_cons.mpr ⟨lw_p48, List.forall_mem_cons.mpr ⟨lw_p49, List.forall_mem_cons.mpr ⟨lw_p50, List.forall_mem_cons.mpr ⟨lw_p51, List.forall_mem_cons.mpr ⟨lw_p52, List.forall_mem_cons.mpr ⟨lw_p53, List.forall_mem_cons.mpr ⟨lw_p54, List.forall_mem_cons.mpr ⟨lw_p55, List.forall_mem_cons.mpr ⟨lw_p56, List.forall_mem_cons.mpr ⟨lw_p57, List.forall_mem_cons.mpr ⟨lw_p58, List.forall_mem_cons.mpr ⟨lw_p59, List.forall_mem_cons.mpr ⟨lw_p60, List.forall_mem_cons.mpr ⟨lw_p61, List.forall_mem_cons.mpr ⟨lw_p62, List.forall_mem_cons.mpr ⟨lw_p63, fun _ h => absurd h List.not_mem_nil⟩⟩⟩⟩⟩⟩⟩⟩⟩⟩⟩⟩⟩⟩⟩⟩
theorem lw_p64 : lw_okq (⟨"LineCallsModel", "thrownTo", "(II)V"⟩, 25) := ⟨⟨by decide +kernel, by decide +kernel⟩, lw_t5 (List.mem_of_getElem? (i := 135) rfl), lw_t6 (List.mem_of_getElem? (i := 119) rfl), lw_t6 (List.mem_of_getElem? (i := 120) rfl)⟩
theorem lw_p65 : lw_okq (⟨"LineCallsModel", "isWonIn", "(I)Z"⟩, 25) := ⟨⟨by decide +kernel, by decide +kernel⟩, lw_t5 (List.mem_of_getElem? (i := 135) rfl), lw_t6 (List.mem_of_getElem? (i := 123) rfl), lw_t6 (List.mem_of_getElem? (i := 124) rfl)⟩
theorem lw_p66 : lw_okq (⟨"LineCallsModel", "sumOf", "(I)I"⟩, 25) := ⟨⟨by decide +kernel, by decide +kernel⟩, lw_t5 (List.mem_of_getElem? (i := 135) rfl), lw_t6 (List.mem_of_getElem? (i := 132) rfl), lw_t6 (List.mem_of_getElem? (i := 133) rfl)⟩
theorem lw_p67 : lw_okq (⟨"LineCallsModel", "placesWon", "()I"⟩, 25) := ⟨⟨by decide +kernel, by decide +kernel⟩, lw_t5 (List.mem_of_getElem? (i := 135) rfl), lw_t6 (List.mem_of_getElem? (i := 136) rfl), lw_t6 (List.mem_of_getElem? (i := 137) rfl)⟩
theorem lw_p68 : lw_okq (⟨"LineCallsModel", "placesSaid", "(I)I"⟩, 25) := ⟨⟨by decide +kernel, by decide +kernel⟩, lw_t5 (List.mem_of_getElem? (i := 135) rfl), lw_t6 (List.mem_of_getElem? (i := 140) rfl), lw_t6 (List.mem_of_getElem? (i := 141) rfl)⟩
theorem lw_p69 : lw_okq (⟨"LineCallsModel", "putBack", "(I)I"⟩, 25) := ⟨⟨by decide +kernel, by decide +kernel⟩, lw_t5 (List.mem_of_getElem? (i := 135) rfl), lw_t6 (List.mem_of_getElem? (i := 154) rfl), lw_t6 (List.mem_of_getElem? (i := 155) rfl)⟩
theorem lw_p70 : lw_okq (⟨"LineCallsModel", "behind", "(II)I"⟩, 25) := ⟨⟨by decide +kernel, by decide +kernel⟩, lw_t5 (List.mem_of_getElem? (i := 135) rfl), lw_t6 (List.mem_of_getElem? (i := 162) rfl), lw_t6 (List.mem_of_getElem? (i := 163) rfl)⟩
theorem lw_p71 : lw_okq (⟨"LineCallsModel", "orNone", "(I)I"⟩, 25) := ⟨⟨by decide +kernel, by decide +kernel⟩, lw_t5 (List.mem_of_getElem? (i := 135) rfl), lw_t6 (List.mem_of_getElem? (i := 170) rfl), lw_t6 (List.mem_of_getElem? (i := 171) rfl)⟩
theorem lw_p72 : lw_okq (⟨"LineCallsModel", "bestFor", "(IIII)I"⟩, 25) := ⟨⟨by decide +kernel, by decide +kernel⟩, lw_t5 (List.mem_of_getElem? (i := 135) rfl), lw_t6 (List.mem_of_getElem? (i := 186) rfl), lw_t6 (List.mem_of_getElem? (i := 187) rfl)⟩
theorem lw_p73 : lw_okq (⟨"LineCallsModel", "metresStanding", "(III)I"⟩, 25) := ⟨⟨by decide +kernel, by decide +kernel⟩, lw_t5 (List.mem_of_getElem? (i := 135) rfl), lw_t6 (List.mem_of_getElem? (i := 198) rfl), lw_t6 (List.mem_of_getElem? (i := 199) rfl)⟩
theorem lw_p74 : lw_okq (⟨"LineCallsModel", "lacks", "(IZ)I"⟩, 25) := ⟨⟨by decide +kernel, by decide +kernel⟩, lw_t5 (List.mem_of_getElem? (i := 135) rfl), lw_t6 (List.mem_of_getElem? (i := 218) rfl), lw_t6 (List.mem_of_getElem? (i := 219) rfl)⟩
theorem lw_p75 : lw_okq (⟨"LineCallsModel", "areMetresSo", "(I)Z"⟩, 25) := ⟨⟨by decide +kernel, by decide +kernel⟩, lw_t5 (List.mem_of_getElem? (i := 135) rfl), lw_t6 (List.mem_of_getElem? (i := 226) rfl), lw_t6 (List.mem_of_getElem? (i := 227) rfl)⟩
theorem lw_p76 : lw_okq (⟨"LineCallsModel", "fitTall", "(II)V"⟩, 25) := ⟨⟨by decide +kernel, by decide +kernel⟩, lw_t5 (List.mem_of_getElem? (i := 135) rfl), lw_t6 (List.mem_of_getElem? (i := 234) rfl), lw_t6 (List.mem_of_getElem? (i := 235) rfl)⟩
theorem lw_p77 : lw_okq (⟨"LineCallsModel", "drawn", "()I"⟩, 25) := ⟨⟨by decide +kernel, by decide +kernel⟩, lw_t5 (List.mem_of_getElem? (i := 135) rfl), lw_t7 (List.mem_of_getElem? (i := 10) rfl), lw_t7 (List.mem_of_getElem? (i := 11) rfl)⟩
theorem lw_p78 : lw_okq (⟨"LineCallsModel", "token", "()V"⟩, 25) := ⟨⟨by decide +kernel, by decide +kernel⟩, lw_t5 (List.mem_of_getElem? (i := 135) rfl), lw_t7 (List.mem_of_getElem? (i := 35) rfl), lw_t7 (List.mem_of_getElem? (i := 36) rfl)⟩
theorem lw_p79 : lw_okq (⟨"LineCallsModel", "byteAt", "(I)I"⟩, 25) := ⟨⟨by decide +kernel, by decide +kernel⟩, lw_t5 (List.mem_of_getElem? (i := 135) rfl), lw_t7 (List.mem_of_getElem? (i := 39) rfl), lw_t7 (List.mem_of_getElem? (i := 40) rfl)⟩
def lw_privs_5 : List (MethodName × Nat) := [(⟨"LineCallsModel", "thrownTo", "(II)V"⟩, 25), (⟨"LineCallsModel", "isWonIn", "(I)Z"⟩, 25), (⟨"LineCallsModel", "sumOf", "(I)I"⟩, 25), (⟨"LineCallsModel", "placesWon", "()I"⟩, 25), (⟨"LineCallsModel", "placesSaid", "(I)I"⟩, 25), (⟨"LineCallsModel", "putBack", "(I)I"⟩, 25), (⟨"LineCallsModel", "behind", "(II)I"⟩, 25), (⟨"LineCallsModel", "orNone", "(I)I"⟩, 25), (⟨"LineCallsModel", "bestFor", "(IIII)I"⟩, 25), (⟨"LineCallsModel", "metresStanding", "(III)I"⟩, 25), (⟨"LineCallsModel", "lacks", "(IZ)I"⟩, 25), (⟨"LineCallsModel", "areMetresSo", "(I)Z"⟩, 25), (⟨"LineCallsModel", "fitTall", "(II)V"⟩, 25), (⟨"LineCallsModel", "drawn", "()I"⟩, 25), (⟨"LineCallsModel", "token", "()V"⟩, 25), (⟨"LineCallsModel", "byteAt", "(I)I"⟩, 25)]
theorem lw_r5 : ∀ q ∈ lw_privs_5, lw_okq q := List.forall_mem_cons.mpr ⟨lw_p64, List.forall_mem_cons.mpr ⟨lw_p65, List.forall_mem_cons.mpr ⟨lw_p66, List.forall_mem_cons.mpr ⟨lw_p67, List.forall_mem_cons.mpr ⟨lw_p68, List.forall_mem_cons.mpr ⟨lw_p69, List.forall_mem_cons.mpr ⟨lw_p70, List.forall_mem_cons.mpr ⟨lw_p71, List.forall_mem_cons.mpr ⟨lw_p72, List.forall_mem_cons.mpr ⟨lw_p73, List.forall_mem_cons.mpr ⟨lw_p74, List.forall_mem_cons.mpr ⟨lw_p75, List.forall_mem_cons.mpr ⟨lw_p76, List.forall_mem_cons.mpr ⟨lw_p77, List.forall_mem_cons.mpr ⟨lw_p78, List.forall_mem_cons.mpr ⟨lw_p79, fun _ h => absurd h List.not_mem_nil⟩⟩⟩⟩⟩⟩⟩⟩⟩⟩⟩⟩⟩⟩⟩⟩
theorem lw_p80 : lw_okq (⟨"LineCallsModel", "readItem", "()V"⟩, 25) := ⟨⟨by decide +kernel, by decide +kernel⟩, lw_t5 (List.mem_of_getElem? (i := 135) rfl), lw_t7 (List.mem_of_getElem? (i := 43) rfl), lw_t7 (List.mem_of_getElem? (i := 44) rfl)⟩
theorem lw_p81 : lw_okq (⟨"LineCallsModel", "isWord", "(Ljava/lang/String;)Z"⟩, 25) := ⟨⟨by decide +kernel, by decide +kernel⟩, lw_t5 (List.mem_of_getElem? (i := 135) rfl), lw_t7 (List.mem_of_getElem? (i := 47) rfl), lw_t7 (List.mem_of_getElem? (i := 48) rfl)⟩
theorem lw_p82 : lw_okq (⟨"LineCallsModel", "readJumper", "(I)V"⟩, 25) := ⟨⟨by decide +kernel, by decide +kernel⟩, lw_t5 (List.mem_of_getElem? (i := 135) rfl), lw_t7 (List.mem_of_getElem? (i := 60) rfl), lw_t7 (List.mem_of_getElem? (i := 61) rfl)⟩
theorem lw_p83 : lw_okq (⟨"LineCallsModel", "must", "(Z)V"⟩, 25) := ⟨⟨by decide +kernel, by decide +kernel⟩, lw_t5 (List.mem_of_getElem? (i := 135) rfl), lw_t7 (List.mem_of_getElem? (i := 64) rfl), lw_t7 (List.mem_of_getElem? (i := 65) rfl)⟩
theorem lw_p84 : lw_okq (⟨"LineCallsModel", "takesWord", "(Ljava/lang/String;)Z"⟩, 25) := ⟨⟨by decide +kernel, by decide +kernel⟩, lw_t5 (List.mem_of_getElem? (i := 135) rfl), lw_t7 (List.mem_of_getElem? (i := 69) rfl), lw_t7 (List.mem_of_getElem? (i := 70) rfl)⟩
theorem lw_p85 : lw_okq (⟨"LineCallsModel", "freePlace", "()I"⟩, 25) := ⟨⟨by decide +kernel, by decide +kernel⟩, lw_t5 (List.mem_of_getElem? (i := 135) rfl), lw_t7 (List.mem_of_getElem? (i := 73) rfl), lw_t7 (List.mem_of_getElem? (i := 74) rfl)⟩
theorem lw_p86 : lw_okq (⟨"LineCallsModel", "number", "(II)I"⟩, 25) := ⟨⟨by decide +kernel, by decide +kernel⟩, lw_t5 (List.mem_of_getElem? (i := 135) rfl), lw_t7 (List.mem_of_getElem? (i := 78) rfl), lw_t7 (List.mem_of_getElem? (i := 79) rfl)⟩
theorem lw_p87 : lw_okq (⟨"LineCallsModel", "addItem", "(III)V"⟩, 25) := ⟨⟨by decide +kernel, by decide +kernel⟩, lw_t5 (List.mem_of_getElem? (i := 135) rfl), lw_t7 (List.mem_of_getElem? (i := 82) rfl), lw_t7 (List.mem_of_getElem? (i := 83) rfl)⟩
theorem lw_p88 : lw_okq (⟨"LineCallsModel", "isToldSo", "(I)V"⟩, 25) := ⟨⟨by decide +kernel, by decide +kernel⟩, lw_t5 (List.mem_of_getElem? (i := 135) rfl), lw_t7 (List.mem_of_getElem? (i := 91) rfl), lw_t7 (List.mem_of_getElem? (i := 92) rfl)⟩
def lw_privs_6 : List (MethodName × Nat) := [(⟨"LineCallsModel", "readItem", "()V"⟩, 25), (⟨"LineCallsModel", "isWord", "(Ljava/lang/String;)Z"⟩, 25), (⟨"LineCallsModel", "readJumper", "(I)V"⟩, 25), (⟨"LineCallsModel", "must", "(Z)V"⟩, 25), (⟨"LineCallsModel", "takesWord", "(Ljava/lang/String;)Z"⟩, 25), (⟨"LineCallsModel", "freePlace", "()I"⟩, 25), (⟨"LineCallsModel", "number", "(II)I"⟩, 25), (⟨"LineCallsModel", "addItem", "(III)V"⟩, 25), (⟨"LineCallsModel", "isToldSo", "(I)V"⟩, 25)]
theorem lw_r6 : ∀ q ∈ lw_privs_6, lw_okq q := List.forall_mem_cons.mpr ⟨lw_p80, List.forall_mem_cons.mpr ⟨lw_p81, List.forall_mem_cons.mpr ⟨lw_p82, List.forall_mem_cons.mpr ⟨lw_p83, List.forall_mem_cons.mpr ⟨lw_p84, List.forall_mem_cons.mpr ⟨lw_p85, List.forall_mem_cons.mpr ⟨lw_p86, List.forall_mem_cons.mpr ⟨lw_p87, List.forall_mem_cons.mpr ⟨lw_p88, fun _ h => absurd h List.not_mem_nil⟩⟩⟩⟩⟩⟩⟩⟩⟩
def lw_privs : List (MethodName × Nat) := lw_privs_1 ++ (lw_privs_2 ++ (lw_privs_3 ++ (lw_privs_4 ++ (lw_privs_5 ++ (lw_privs_6)))))
def lw_tbl : List Cond := k2_sels lw_privs ++ tables_1
theorem lw_privs_ok : ∀ q ∈ lw_privs, lw_okq q := by
  show ∀ q ∈ lw_privs_1 ++ (lw_privs_2 ++ (lw_privs_3 ++ (lw_privs_4 ++ (lw_privs_5 ++ (lw_privs_6))))), lw_okq q
  exact List.forall_mem_append.mpr ⟨lw_r1, List.forall_mem_append.mpr ⟨lw_r2, List.forall_mem_append.mpr ⟨lw_r3, List.forall_mem_append.mpr ⟨lw_r4, List.forall_mem_append.mpr ⟨lw_r5, lw_r6⟩⟩⟩⟩⟩
-- ===== ONE list of words for every method: the tables' words that hold all through a run =====
def lw_all : List Cond := lw_tbl.filter goodWord
/-- a word of the tables by its place: claim/WORDS.tsv -/
theorem lw_w {w : Cond} (i : Nat) (h : lw_tbl[i]? = some w) (g : goodWord w = true) : w ∈ lw_all := List.mem_filter.mpr ⟨List.mem_of_getElem? h, g⟩
theorem lw_all_tbl {w : Cond} (h : w ∈ lw_all) : w ∈ lw_tbl := (List.mem_filter.mp h).1
theorem lw_self : GoodIn lw_all lw_all := fun w h => ⟨h, good_of_word (List.mem_filter.mp h).2⟩
/-- a class's field words, by their places -/
theorem lw_in (ws : List Cond) (ps : List Nat) (hp : ws = ps.filterMap (fun i => lw_tbl[i]?)) (hg : ws.all goodWord = true) : ∀ w ∈ ws, w ∈ lw_all := by
  intro w h
  have h1 := List.all_eq_true.mp hg w h
  rw [hp] at h
  obtain ⟨i, -, hi⟩ := List.mem_filterMap.mp h
  exact lw_w i hi h1
/-- the words of a contract for the method y with code b, L locals, answer r -/
abbrev ws_ (y : MethodName) (b : ByteArray) (L : Nat) (r : Option FieldType) : List Cond := Cond.code y b L r :: lw_all
theorem lw_meth {y : MethodName} {b : ByteArray} {L : Nat} {r : Option FieldType} (h : Cond.code y b L r ∈ lw_all) : GoodIn lw_all (ws_ y b L r) := by
  intro w hw
  rcases List.mem_cons.mp hw with e | e
  · rw [e]
    exact lw_self _ h
  · exact lw_self _ e
theorem lw_app {a c : List Cond} (ha : ∀ w ∈ a, w ∈ lw_all) (hc : GoodIn lw_all c) : GoodIn lw_all (a ++ c) := by
  intro w hw
  rcases List.mem_append.mp hw with e | e
  · exact lw_self w (ha w e)
  · exact hc w e
/-- what a call through an object asks: cwV n hts (lw_V ..) -/
theorem lw_V {own : String} {idx : Nat} {C : String} {y : MethodName} {b : ByteArray} {L : Nat} {r : Option FieldType} (h1 : Cond.methodLink own idx y ∈ lw_all) (h2 : Cond.instanceMethod y ∈ lw_all) (h3 : Cond.selects C y y ∈ lw_all) (h4 : Cond.initialized C ∈ lw_all) (h5 : Cond.code y b L r ∈ lw_all) : GoodIn lw_all (wsV own idx C y (ws_ y b L r)) := by
  refine lw_app ?_ (lw_meth h5)
  intro w hw
  simp only [List.mem_cons, List.not_mem_nil, or_false] at hw
  rcases hw with e | e | e | e
  · rw [e]; exact h1
  · rw [e]; exact h2
  · rw [e]; exact h3
  · rw [e]; exact h4
/-- what a static call asks: va_cwS n hts (lw_S ..) -/
theorem lw_S {own : String} {idx : Nat} {y : MethodName} {b : ByteArray} {L : Nat} {r : Option FieldType} (h1 : Cond.methodLink own idx y ∈ lw_all) (h2 : Cond.static y ∈ lw_all) (h3 : Cond.initialized y.cls ∈ lw_all) (h4 : Cond.code y b L r ∈ lw_all) : GoodIn lw_all (va_wsS own idx y (ws_ y b L r)) := by
  refine lw_app ?_ (lw_meth h4)
  intro w hw
  simp only [List.mem_cons, List.not_mem_nil, or_false] at hw
  rcases hw with e | e | e
  · rw [e]; exact h1
  · rw [e]; exact h2
  · rw [e]; exact h3
/-- the words of a contract for a method WITH HANDLERS (hh: its table) -/
abbrev wsW_ (y : MethodName) (b : ByteArray) (L : Nat) (r : Option FieldType) (hh : List (Nat × Nat × Nat × Nat)) : List Cond := Cond.codeWith y b L r hh :: lw_all
theorem lw_methW {y : MethodName} {b : ByteArray} {L : Nat} {r : Option FieldType} {hh : List (Nat × Nat × Nat × Nat)} (h : Cond.codeWith y b L r hh ∈ lw_all) : GoodIn lw_all (wsW_ y b L r hh) := by
  intro w hw
  rcases List.mem_cons.mp hw with e | e
  · rw [e]
    exact lw_self _ h
  · exact lw_self _ e
/-- any list of words by their places (lw_in), good -/
theorem lw_good {ws : List Cond} (h : ∀ w ∈ ws, w ∈ lw_all) : GoodIn lw_all ws := fun w hw => lw_self w (h w hw)
/-- what a call of a method with handlers asks: vx_cwVW n hts (lw_VW ..), vx_cwSW n hts (lw_SW ..) -/
theorem lw_VW {own : String} {idx : Nat} {C : String} {y : MethodName} {b : ByteArray} {L : Nat} {r : Option FieldType} {hh : List (Nat × Nat × Nat × Nat)} (h1 : Cond.methodLink own idx y ∈ lw_all) (h2 : Cond.instanceMethod y ∈ lw_all) (h3 : Cond.selects C y y ∈ lw_all) (h4 : Cond.initialized C ∈ lw_all) (h5 : Cond.codeWith y b L r hh ∈ lw_all) : GoodIn lw_all (wsV own idx C y (wsW_ y b L r hh)) := by
  refine lw_app ?_ (lw_methW h5)
  intro w hw
  simp only [List.mem_cons, List.not_mem_nil, or_false] at hw
  rcases hw with e | e | e | e
  · rw [e]; exact h1
  · rw [e]; exact h2
  · rw [e]; exact h3
  · rw [e]; exact h4
theorem lw_SW {own : String} {idx : Nat} {y : MethodName} {b : ByteArray} {L : Nat} {r : Option FieldType} {hh : List (Nat × Nat × Nat × Nat)} (h1 : Cond.methodLink own idx y ∈ lw_all) (h2 : Cond.static y ∈ lw_all) (h3 : Cond.initialized y.cls ∈ lw_all) (h4 : Cond.codeWith y b L r hh ∈ lw_all) : GoodIn lw_all (va_wsS own idx y (wsW_ y b L r hh)) := by
  refine lw_app ?_ (lw_methW h4)
  intro w hw
  simp only [List.mem_cons, List.not_mem_nil, or_false] at hw
  rcases hw with e | e | e
  · rw [e]; exact h1
  · rw [e]; exact h2
  · rw [e]; exact h3
/-- a word by its place in its run of the tables -/
theorem lw_at {r : List Cond} (hr : ∀ w ∈ r, w ∈ lw_tbl) {w : Cond} (i : Nat) (h : r[i]? = some w) : w ∈ lw_tbl := hr w (List.mem_of_getElem? h)
theorem lw_g {w : Cond} (h : w ∈ lw_tbl) (g : goodWord w = true) : w ∈ lw_all := List.mem_filter.mpr ⟨h, g⟩
theorem lw_ms : ∀ w ∈ k2_sels lw_privs, w ∈ lw_tbl := fun w h => show w ∈ k2_sels lw_privs ++ tables_1 from List.mem_append_left _ h
theorem lw_m1 : ∀ w ∈ tables_1_1, w ∈ lw_tbl := fun w h => show w ∈ k2_sels lw_privs ++ tables_1 from List.mem_append_right (k2_sels lw_privs) (show w ∈ tables_1 from List.mem_append_left _ h)
theorem lw_m2 : ∀ w ∈ tables_1_2, w ∈ lw_tbl := fun w h => show w ∈ k2_sels lw_privs ++ tables_1 from List.mem_append_right (k2_sels lw_privs) (show w ∈ tables_1 from List.mem_append_right _ (List.mem_append_left _ h))
theorem lw_m3 : ∀ w ∈ tables_1_3, w ∈ lw_tbl := fun w h => show w ∈ k2_sels lw_privs ++ tables_1 from List.mem_append_right (k2_sels lw_privs) (show w ∈ tables_1 from List.mem_append_right _ (List.mem_append_right _ (List.mem_append_left _ h)))
theorem lw_m4 : ∀ w ∈ tables_1_4, w ∈ lw_tbl := fun w h => show w ∈ k2_sels lw_privs ++ tables_1 from List.mem_append_right (k2_sels lw_privs) (show w ∈ tables_1 from List.mem_append_right _ (List.mem_append_right _ (List.mem_append_right _ (List.mem_append_left _ h))))
theorem lw_m5 : ∀ w ∈ tables_1_5, w ∈ lw_tbl := fun w h => show w ∈ k2_sels lw_privs ++ tables_1 from List.mem_append_right (k2_sels lw_privs) (show w ∈ tables_1 from List.mem_append_right _ (List.mem_append_right _ (List.mem_append_right _ (List.mem_append_right _ (List.mem_append_left _ h)))))
theorem lw_m6 : ∀ w ∈ tables_1_6, w ∈ lw_tbl := fun w h => show w ∈ k2_sels lw_privs ++ tables_1 from List.mem_append_right (k2_sels lw_privs) (show w ∈ tables_1 from List.mem_append_right _ (List.mem_append_right _ (List.mem_append_right _ (List.mem_append_right _ (List.mem_append_right _ (List.mem_append_left _ h))))))
theorem lw_m7 : ∀ w ∈ tables_1_7, w ∈ lw_tbl := fun w h => show w ∈ k2_sels lw_privs ++ tables_1 from List.mem_append_right (k2_sels lw_privs) (show w ∈ tables_1 from List.mem_append_right _ (List.mem_append_right _ (List.mem_append_right _ (List.mem_append_right _ (List.mem_append_right _ (List.mem_append_right _ h))))))
theorem qs0 : (Cond.selects "java/lang/Throwable" ⟨"java/lang/Throwable", "fillInStackTrace", "(I)Ljava/lang/Throwable;"⟩ ⟨"java/lang/Throwable", "fillInStackTrace", "(I)Ljava/lang/Throwable;"⟩) ∈ lw_all := lw_g (lw_at lw_ms 0 rfl) rfl
theorem qs1 : (Cond.selects "LineCalls" ⟨"LineCalls", "made", "(II)LLineCalls$Jumper;"⟩ ⟨"LineCalls", "made", "(II)LLineCalls$Jumper;"⟩) ∈ lw_all := lw_g (lw_at lw_ms 1 rfl) rfl
theorem qs2 : (Cond.selects "LineCalls" ⟨"LineCalls", "isJumper", "(I)Z"⟩ ⟨"LineCalls", "isJumper", "(I)Z"⟩) ∈ lw_all := lw_g (lw_at lw_ms 2 rfl) rfl
theorem qs3 : (Cond.selects "LineCalls" ⟨"LineCalls", "finding", "(I)I"⟩ ⟨"LineCalls", "finding", "(I)I"⟩) ∈ lw_all := lw_g (lw_at lw_ms 3 rfl) rfl
theorem qs4 : (Cond.selects "LineCalls" ⟨"LineCalls", "jumperOf", "(I)LLineCalls$Jumper;"⟩ ⟨"LineCalls", "jumperOf", "(I)LLineCalls$Jumper;"⟩) ∈ lw_all := lw_g (lw_at lw_ms 4 rfl) rfl
theorem qs5 : (Cond.selects "LineCalls" ⟨"LineCalls", "goesOn", "(I)I"⟩ ⟨"LineCalls", "goesOn", "(I)I"⟩) ∈ lw_all := lw_g (lw_at lw_ms 5 rfl) rfl
theorem qs6 : (Cond.selects "LineCalls" ⟨"LineCalls", "passes", "(I)V"⟩ ⟨"LineCalls", "passes", "(I)V"⟩) ∈ lw_all := lw_g (lw_at lw_ms 6 rfl) rfl
theorem qs7 : (Cond.selects "LineCalls" ⟨"LineCalls", "passes", "()V"⟩ ⟨"LineCalls", "passes", "()V"⟩) ∈ lw_all := lw_g (lw_at lw_ms 7 rfl) rfl
theorem qs8 : (Cond.selects "LineCalls" ⟨"LineCalls", "wouldWin", "(I)Z"⟩ ⟨"LineCalls", "wouldWin", "(I)Z"⟩) ∈ lw_all := lw_g (lw_at lw_ms 8 rfl) rfl
theorem qs9 : (Cond.selects "LineCalls" ⟨"LineCalls", "won", "()I"⟩ ⟨"LineCalls", "won", "()I"⟩) ∈ lw_all := lw_g (lw_at lw_ms 9 rfl) rfl
theorem qs10 : (Cond.selects "LineCalls" ⟨"LineCalls", "toldBehind", "(III)I"⟩ ⟨"LineCalls", "toldBehind", "(III)I"⟩) ∈ lw_all := lw_g (lw_at lw_ms 10 rfl) rfl
theorem qs11 : (Cond.selects "LineCalls" ⟨"LineCalls", "toldOf", "(II)I"⟩ ⟨"LineCalls", "toldOf", "(II)I"⟩) ∈ lw_all := lw_g (lw_at lw_ms 11 rfl) rfl
theorem qs12 : (Cond.selects "LineCalls" ⟨"LineCalls", "metresBehind", "(I)I"⟩ ⟨"LineCalls", "metresBehind", "(I)I"⟩) ∈ lw_all := lw_g (lw_at lw_ms 12 rfl) rfl
theorem qs13 : (Cond.selects "LineCalls" ⟨"LineCalls", "wonBehind", "(II)I"⟩ ⟨"LineCalls", "wonBehind", "(II)I"⟩) ∈ lw_all := lw_g (lw_at lw_ms 13 rfl) rfl
theorem qs14 : (Cond.selects "LineCalls" ⟨"LineCalls", "orNone", "(I)I"⟩ ⟨"LineCalls", "orNone", "(I)I"⟩) ∈ lw_all := lw_g (lw_at lw_ms 14 rfl) rfl
theorem qs15 : (Cond.selects "LineCalls" ⟨"LineCalls", "knownBehind", "()I"⟩ ⟨"LineCalls", "knownBehind", "()I"⟩) ∈ lw_all := lw_g (lw_at lw_ms 15 rfl) rfl
theorem qs16 : (Cond.selects "LineCalls" ⟨"LineCalls", "bestCode", "(I)I"⟩ ⟨"LineCalls", "bestCode", "(I)I"⟩) ∈ lw_all := lw_g (lw_at lw_ms 16 rfl) rfl
theorem qs17 : (Cond.selects "LineCalls" ⟨"LineCalls", "bestCall", "(I)I"⟩ ⟨"LineCalls", "bestCall", "(I)I"⟩) ∈ lw_all := lw_g (lw_at lw_ms 17 rfl) rfl
theorem qs18 : (Cond.selects "LineCalls" ⟨"LineCalls", "areOne", "(II)Z"⟩ ⟨"LineCalls", "areOne", "(II)Z"⟩) ∈ lw_all := lw_g (lw_at lw_ms 18 rfl) rfl
theorem qs19 : (Cond.selects "LineCalls" ⟨"LineCalls", "bestPlace", "(II)I"⟩ ⟨"LineCalls", "bestPlace", "(II)I"⟩) ∈ lw_all := lw_g (lw_at lw_ms 19 rfl) rfl
theorem qs20 : (Cond.selects "LineCalls" ⟨"LineCalls", "metresFrom", "(III)I"⟩ ⟨"LineCalls", "metresFrom", "(III)I"⟩) ∈ lw_all := lw_g (lw_at lw_ms 20 rfl) rfl
theorem qs21 : (Cond.selects "LineCalls" ⟨"LineCalls", "bestKind", "(II)I"⟩ ⟨"LineCalls", "bestKind", "(II)I"⟩) ∈ lw_all := lw_g (lw_at lw_ms 21 rfl) rfl
theorem qs22 : (Cond.selects "LineCalls" ⟨"LineCalls", "leastTall", "(III)I"⟩ ⟨"LineCalls", "leastTall", "(III)I"⟩) ∈ lw_all := lw_g (lw_at lw_ms 22 rfl) rfl
theorem qs23 : (Cond.selects "LineCalls" ⟨"LineCalls", "rowAt", "(I)Ljava/lang/Object;"⟩ ⟨"LineCalls", "rowAt", "(I)Ljava/lang/Object;"⟩) ∈ lw_all := lw_g (lw_at lw_ms 23 rfl) rfl
theorem qs24 : (Cond.selects "LineCalls" ⟨"LineCalls", "need", "(ZI)V"⟩ ⟨"LineCalls", "need", "(ZI)V"⟩) ∈ lw_all := lw_g (lw_at lw_ms 24 rfl) rfl
theorem qs25 : (Cond.selects "LineCalls" ⟨"LineCalls", "refused", "(I)LLineCalls$Refusal;"⟩ ⟨"LineCalls", "refused", "(I)LLineCalls$Refusal;"⟩) ∈ lw_all := lw_g (lw_at lw_ms 25 rfl) rfl
theorem qs26 : (Cond.selects "LineCalls" ⟨"LineCalls", "codesThatFit", "(Ljava/lang/Object;)I"⟩ ⟨"LineCalls", "codesThatFit", "(Ljava/lang/Object;)I"⟩) ∈ lw_all := lw_g (lw_at lw_ms 26 rfl) rfl
theorem qs27 : (Cond.selects "LineCalls" ⟨"LineCalls", "wasSo", "(Ljava/lang/Object;)Z"⟩ ⟨"LineCalls", "wasSo", "(Ljava/lang/Object;)Z"⟩) ∈ lw_all := lw_g (lw_at lw_ms 27 rfl) rfl
theorem qs28 : (Cond.selects "LineCalls" ⟨"LineCalls", "rowFor", "(II)Ljava/lang/Object;"⟩ ⟨"LineCalls", "rowFor", "(II)Ljava/lang/Object;"⟩) ∈ lw_all := lw_g (lw_at lw_ms 28 rfl) rfl
theorem qs29 : (Cond.selects "LineCalls" ⟨"LineCalls", "manyFits", "(Ljava/lang/Object;I)I"⟩ ⟨"LineCalls", "manyFits", "(Ljava/lang/Object;I)I"⟩) ∈ lw_all := lw_g (lw_at lw_ms 29 rfl) rfl
theorem qs30 : (Cond.selects "LineCalls" ⟨"LineCalls", "kindsThatFit", "(Ljava/lang/Object;I)I"⟩ ⟨"LineCalls", "kindsThatFit", "(Ljava/lang/Object;I)I"⟩) ∈ lw_all := lw_g (lw_at lw_ms 30 rfl) rfl
theorem qs31 : (Cond.selects "LineCalls" ⟨"LineCalls", "mixed", "(I)I"⟩ ⟨"LineCalls", "mixed", "(I)I"⟩) ∈ lw_all := lw_g (lw_at lw_ms 31 rfl) rfl
theorem qs32 : (Cond.selects "LineCalls" ⟨"LineCalls", "callsFor", "(I)I"⟩ ⟨"LineCalls", "callsFor", "(I)I"⟩) ∈ lw_all := lw_g (lw_at lw_ms 32 rfl) rfl
theorem qs33 : (Cond.selects "LineCalls$Reader" ⟨"LineCalls$Reader", "next", "()V"⟩ ⟨"LineCalls$Reader", "next", "()V"⟩) ∈ lw_all := lw_g (lw_at lw_ms 33 rfl) rfl
theorem qs34 : (Cond.selects "LineCalls$Reader" ⟨"LineCalls$Reader", "byteAt", "(I)I"⟩ ⟨"LineCalls$Reader", "byteAt", "(I)I"⟩) ∈ lw_all := lw_g (lw_at lw_ms 34 rfl) rfl
theorem qs35 : (Cond.selects "LineCalls$Reader" ⟨"LineCalls$Reader", "word", "()V"⟩ ⟨"LineCalls$Reader", "word", "()V"⟩) ∈ lw_all := lw_g (lw_at lw_ms 35 rfl) rfl
theorem qs36 : (Cond.selects "LineCalls$Reader" ⟨"LineCalls$Reader", "isKey", "(II)Z"⟩ ⟨"LineCalls$Reader", "isKey", "(II)Z"⟩) ∈ lw_all := lw_g (lw_at lw_ms 36 rfl) rfl
theorem qs37 : (Cond.selects "LineCalls$Reader" ⟨"LineCalls$Reader", "need", "(Z)V"⟩ ⟨"LineCalls$Reader", "need", "(Z)V"⟩) ∈ lw_all := lw_g (lw_at lw_ms 37 rfl) rfl
theorem qs38 : (Cond.selects "LineCalls$Reader" ⟨"LineCalls$Reader", "digits", "()V"⟩ ⟨"LineCalls$Reader", "digits", "()V"⟩) ∈ lw_all := lw_g (lw_at lw_ms 38 rfl) rfl
theorem qs39 : (Cond.selects "LineCalls$Reader" ⟨"LineCalls$Reader", "item", "()V"⟩ ⟨"LineCalls$Reader", "item", "()V"⟩) ∈ lw_all := lw_g (lw_at lw_ms 39 rfl) rfl
theorem qs40 : (Cond.selects "LineCalls$Reader" ⟨"LineCalls$Reader", "theirs", "()V"⟩ ⟨"LineCalls$Reader", "theirs", "()V"⟩) ∈ lw_all := lw_g (lw_at lw_ms 40 rfl) rfl
theorem qs41 : (Cond.selects "LineCalls$Reader" ⟨"LineCalls$Reader", "behind", "(II)I"⟩ ⟨"LineCalls$Reader", "behind", "(II)I"⟩) ∈ lw_all := lw_g (lw_at lw_ms 41 rfl) rfl
theorem qs42 : (Cond.selects "LineCalls$Reader" ⟨"LineCalls$Reader", "number", "(II)I"⟩ ⟨"LineCalls$Reader", "number", "(II)I"⟩) ∈ lw_all := lw_g (lw_at lw_ms 42 rfl) rfl
theorem qs43 : (Cond.selects "LineCalls$Reader" ⟨"LineCalls$Reader", "call", "()V"⟩ ⟨"LineCalls$Reader", "call", "()V"⟩) ∈ lw_all := lw_g (lw_at lw_ms 43 rfl) rfl
theorem qs44 : (Cond.selects "LineCalls$Reader" ⟨"LineCalls$Reader", "jumper", "(I)V"⟩ ⟨"LineCalls$Reader", "jumper", "(I)V"⟩) ∈ lw_all := lw_g (lw_at lw_ms 44 rfl) rfl
theorem qs45 : (Cond.selects "LineCalls$Reader" ⟨"LineCalls$Reader", "isWord", "(I)Z"⟩ ⟨"LineCalls$Reader", "isWord", "(I)Z"⟩) ∈ lw_all := lw_g (lw_at lw_ms 45 rfl) rfl
theorem qs46 : (Cond.selects "LineCalls$Reader" ⟨"LineCalls$Reader", "free", "()I"⟩ ⟨"LineCalls$Reader", "free", "()I"⟩) ∈ lw_all := lw_g (lw_at lw_ms 46 rfl) rfl
theorem qs47 : (Cond.selects "LineCalls" ⟨"LineCalls", "thingAt", "(I)Ljava/lang/Object;"⟩ ⟨"LineCalls", "thingAt", "(I)Ljava/lang/Object;"⟩) ∈ lw_all := lw_g (lw_at lw_ms 47 rfl) rfl
theorem qs48 : (Cond.selects "LineCalls" ⟨"LineCalls", "loads", "(Ljava/lang/Object;)I"⟩ ⟨"LineCalls", "loads", "(Ljava/lang/Object;)I"⟩) ∈ lw_all := lw_g (lw_at lw_ms 48 rfl) rfl
theorem qs49 : (Cond.selects "LineCalls" ⟨"LineCalls", "holding", "()I"⟩ ⟨"LineCalls", "holding", "()I"⟩) ∈ lw_all := lw_g (lw_at lw_ms 49 rfl) rfl
theorem qs50 : (Cond.selects "LineCallsModel" ⟨"LineCallsModel", "isJumper", "(I)Z"⟩ ⟨"LineCallsModel", "isJumper", "(I)Z"⟩) ∈ lw_all := lw_g (lw_at lw_ms 50 rfl) rfl
theorem qs51 : (Cond.selects "LineCallsModel" ⟨"LineCallsModel", "stands", "(II)I"⟩ ⟨"LineCallsModel", "stands", "(II)I"⟩) ∈ lw_all := lw_g (lw_at lw_ms 51 rfl) rfl
theorem qs52 : (Cond.selects "LineCallsModel" ⟨"LineCallsModel", "placeOf", "(I)I"⟩ ⟨"LineCallsModel", "placeOf", "(I)I"⟩) ∈ lw_all := lw_g (lw_at lw_ms 52 rfl) rfl
theorem qs53 : (Cond.selects "LineCallsModel" ⟨"LineCallsModel", "finding", "(I)I"⟩ ⟨"LineCallsModel", "finding", "(I)I"⟩) ∈ lw_all := lw_g (lw_at lw_ms 53 rfl) rfl
theorem qs54 : (Cond.selects "LineCallsModel" ⟨"LineCallsModel", "force", "(I)I"⟩ ⟨"LineCallsModel", "force", "(I)I"⟩) ∈ lw_all := lw_g (lw_at lw_ms 54 rfl) rfl
theorem qs55 : (Cond.selects "LineCallsModel" ⟨"LineCallsModel", "become", "(II)I"⟩ ⟨"LineCallsModel", "become", "(II)I"⟩) ∈ lw_all := lw_g (lw_at lw_ms 55 rfl) rfl
theorem qs56 : (Cond.selects "LineCallsModel" ⟨"LineCallsModel", "comes", "(II)I"⟩ ⟨"LineCallsModel", "comes", "(II)I"⟩) ∈ lw_all := lw_g (lw_at lw_ms 56 rfl) rfl
theorem qs57 : (Cond.selects "LineCallsModel" ⟨"LineCallsModel", "jumperIs", "(II)I"⟩ ⟨"LineCallsModel", "jumperIs", "(II)I"⟩) ∈ lw_all := lw_g (lw_at lw_ms 57 rfl) rfl
theorem qs58 : (Cond.selects "LineCallsModel" ⟨"LineCallsModel", "high", "(I)I"⟩ ⟨"LineCallsModel", "high", "(I)I"⟩) ∈ lw_all := lw_g (lw_at lw_ms 58 rfl) rfl
theorem qs59 : (Cond.selects "LineCallsModel" ⟨"LineCallsModel", "tires", "(I)I"⟩ ⟨"LineCallsModel", "tires", "(I)I"⟩) ∈ lw_all := lw_g (lw_at lw_ms 59 rfl) rfl
theorem qs60 : (Cond.selects "LineCallsModel" ⟨"LineCallsModel", "gainsIn", "(II)I"⟩ ⟨"LineCallsModel", "gainsIn", "(II)I"⟩) ∈ lw_all := lw_g (lw_at lw_ms 60 rfl) rfl
theorem qs61 : (Cond.selects "LineCallsModel" ⟨"LineCallsModel", "throwsGo", "(I)V"⟩ ⟨"LineCallsModel", "throwsGo", "(I)V"⟩) ∈ lw_all := lw_g (lw_at lw_ms 61 rfl) rfl
theorem qs62 : (Cond.selects "LineCallsModel" ⟨"LineCallsModel", "oneThrow", "()V"⟩ ⟨"LineCallsModel", "oneThrow", "()V"⟩) ∈ lw_all := lw_g (lw_at lw_ms 62 rfl) rfl
theorem qs63 : (Cond.selects "LineCallsModel" ⟨"LineCallsModel", "placeNext", "()I"⟩ ⟨"LineCallsModel", "placeNext", "()I"⟩) ∈ lw_all := lw_g (lw_at lw_ms 63 rfl) rfl
theorem qs64 : (Cond.selects "LineCallsModel" ⟨"LineCallsModel", "thrownTo", "(II)V"⟩ ⟨"LineCallsModel", "thrownTo", "(II)V"⟩) ∈ lw_all := lw_g (lw_at lw_ms 64 rfl) rfl
theorem qs65 : (Cond.selects "LineCallsModel" ⟨"LineCallsModel", "isWonIn", "(I)Z"⟩ ⟨"LineCallsModel", "isWonIn", "(I)Z"⟩) ∈ lw_all := lw_g (lw_at lw_ms 65 rfl) rfl
theorem qs66 : (Cond.selects "LineCallsModel" ⟨"LineCallsModel", "sumOf", "(I)I"⟩ ⟨"LineCallsModel", "sumOf", "(I)I"⟩) ∈ lw_all := lw_g (lw_at lw_ms 66 rfl) rfl
theorem qs67 : (Cond.selects "LineCallsModel" ⟨"LineCallsModel", "placesWon", "()I"⟩ ⟨"LineCallsModel", "placesWon", "()I"⟩) ∈ lw_all := lw_g (lw_at lw_ms 67 rfl) rfl
theorem qs68 : (Cond.selects "LineCallsModel" ⟨"LineCallsModel", "placesSaid", "(I)I"⟩ ⟨"LineCallsModel", "placesSaid", "(I)I"⟩) ∈ lw_all := lw_g (lw_at lw_ms 68 rfl) rfl
theorem qs69 : (Cond.selects "LineCallsModel" ⟨"LineCallsModel", "putBack", "(I)I"⟩ ⟨"LineCallsModel", "putBack", "(I)I"⟩) ∈ lw_all := lw_g (lw_at lw_ms 69 rfl) rfl
theorem qs70 : (Cond.selects "LineCallsModel" ⟨"LineCallsModel", "behind", "(II)I"⟩ ⟨"LineCallsModel", "behind", "(II)I"⟩) ∈ lw_all := lw_g (lw_at lw_ms 70 rfl) rfl
theorem qs71 : (Cond.selects "LineCallsModel" ⟨"LineCallsModel", "orNone", "(I)I"⟩ ⟨"LineCallsModel", "orNone", "(I)I"⟩) ∈ lw_all := lw_g (lw_at lw_ms 71 rfl) rfl
theorem qs72 : (Cond.selects "LineCallsModel" ⟨"LineCallsModel", "bestFor", "(IIII)I"⟩ ⟨"LineCallsModel", "bestFor", "(IIII)I"⟩) ∈ lw_all := lw_g (lw_at lw_ms 72 rfl) rfl
theorem qs73 : (Cond.selects "LineCallsModel" ⟨"LineCallsModel", "metresStanding", "(III)I"⟩ ⟨"LineCallsModel", "metresStanding", "(III)I"⟩) ∈ lw_all := lw_g (lw_at lw_ms 73 rfl) rfl
theorem qs74 : (Cond.selects "LineCallsModel" ⟨"LineCallsModel", "lacks", "(IZ)I"⟩ ⟨"LineCallsModel", "lacks", "(IZ)I"⟩) ∈ lw_all := lw_g (lw_at lw_ms 74 rfl) rfl
theorem qs75 : (Cond.selects "LineCallsModel" ⟨"LineCallsModel", "areMetresSo", "(I)Z"⟩ ⟨"LineCallsModel", "areMetresSo", "(I)Z"⟩) ∈ lw_all := lw_g (lw_at lw_ms 75 rfl) rfl
theorem qs76 : (Cond.selects "LineCallsModel" ⟨"LineCallsModel", "fitTall", "(II)V"⟩ ⟨"LineCallsModel", "fitTall", "(II)V"⟩) ∈ lw_all := lw_g (lw_at lw_ms 76 rfl) rfl
theorem qs77 : (Cond.selects "LineCallsModel" ⟨"LineCallsModel", "drawn", "()I"⟩ ⟨"LineCallsModel", "drawn", "()I"⟩) ∈ lw_all := lw_g (lw_at lw_ms 77 rfl) rfl
theorem qs78 : (Cond.selects "LineCallsModel" ⟨"LineCallsModel", "token", "()V"⟩ ⟨"LineCallsModel", "token", "()V"⟩) ∈ lw_all := lw_g (lw_at lw_ms 78 rfl) rfl
theorem qs79 : (Cond.selects "LineCallsModel" ⟨"LineCallsModel", "byteAt", "(I)I"⟩ ⟨"LineCallsModel", "byteAt", "(I)I"⟩) ∈ lw_all := lw_g (lw_at lw_ms 79 rfl) rfl
theorem qs80 : (Cond.selects "LineCallsModel" ⟨"LineCallsModel", "readItem", "()V"⟩ ⟨"LineCallsModel", "readItem", "()V"⟩) ∈ lw_all := lw_g (lw_at lw_ms 80 rfl) rfl
theorem qs81 : (Cond.selects "LineCallsModel" ⟨"LineCallsModel", "isWord", "(Ljava/lang/String;)Z"⟩ ⟨"LineCallsModel", "isWord", "(Ljava/lang/String;)Z"⟩) ∈ lw_all := lw_g (lw_at lw_ms 81 rfl) rfl
theorem qs82 : (Cond.selects "LineCallsModel" ⟨"LineCallsModel", "readJumper", "(I)V"⟩ ⟨"LineCallsModel", "readJumper", "(I)V"⟩) ∈ lw_all := lw_g (lw_at lw_ms 82 rfl) rfl
theorem qs83 : (Cond.selects "LineCallsModel" ⟨"LineCallsModel", "must", "(Z)V"⟩ ⟨"LineCallsModel", "must", "(Z)V"⟩) ∈ lw_all := lw_g (lw_at lw_ms 83 rfl) rfl
theorem qs84 : (Cond.selects "LineCallsModel" ⟨"LineCallsModel", "takesWord", "(Ljava/lang/String;)Z"⟩ ⟨"LineCallsModel", "takesWord", "(Ljava/lang/String;)Z"⟩) ∈ lw_all := lw_g (lw_at lw_ms 84 rfl) rfl
theorem qs85 : (Cond.selects "LineCallsModel" ⟨"LineCallsModel", "freePlace", "()I"⟩ ⟨"LineCallsModel", "freePlace", "()I"⟩) ∈ lw_all := lw_g (lw_at lw_ms 85 rfl) rfl
theorem qs86 : (Cond.selects "LineCallsModel" ⟨"LineCallsModel", "number", "(II)I"⟩ ⟨"LineCallsModel", "number", "(II)I"⟩) ∈ lw_all := lw_g (lw_at lw_ms 86 rfl) rfl
theorem qs87 : (Cond.selects "LineCallsModel" ⟨"LineCallsModel", "addItem", "(III)V"⟩ ⟨"LineCallsModel", "addItem", "(III)V"⟩) ∈ lw_all := lw_g (lw_at lw_ms 87 rfl) rfl
theorem qs88 : (Cond.selects "LineCallsModel" ⟨"LineCallsModel", "isToldSo", "(I)V"⟩ ⟨"LineCallsModel", "isToldSo", "(I)V"⟩) ∈ lw_all := lw_g (lw_at lw_ms 88 rfl) rfl
