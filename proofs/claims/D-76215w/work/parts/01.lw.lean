-- ===== PART A: goes FIRST, ahead of the names: the tables' words, and 'selects' of the private methods out of them =====
/-- a private method of a class that the tables say can be made, by its rows of tables_1 -/
def lw_okq (q : MethodName × Nat) : Prop := (q.1.cls ≠ "java/lang/invoke/MethodHandle" ∧ q.1.cls ≠ "java/lang/invoke/VarHandle") ∧ Cond.instantiable q.1.cls q.2 ∈ tables_1 ∧ Cond.privateMethod q.1 ∈ tables_1 ∧ Cond.instanceMethod q.1 ∈ tables_1
set_option maxRecDepth 100000
theorem lw_t1 {w : Cond} (h : w ∈ tables_1_1) : w ∈ tables_1 := List.mem_append_left _ h
theorem lw_t2 {w : Cond} (h : w ∈ tables_1_2) : w ∈ tables_1 := List.mem_append_right _ (List.mem_append_left _ h)
theorem lw_t3 {w : Cond} (h : w ∈ tables_1_3) : w ∈ tables_1 := List.mem_append_right _ (List.mem_append_right _ (List.mem_append_left _ h))
theorem lw_t4 {w : Cond} (h : w ∈ tables_1_4) : w ∈ tables_1 := List.mem_append_right _ (List.mem_append_right _ (List.mem_append_right _ (List.mem_append_left _ h)))
theorem lw_t5 {w : Cond} (h : w ∈ tables_1_5) : w ∈ tables_1 := List.mem_append_right _ (List.mem_append_right _ (List.mem_append_right _ (List.mem_append_right _ (List.mem_append_left _ h))))
theorem lw_t6 {w : Cond} (h : w ∈ tables_1_6) : w ∈ tables_1 := List.mem_append_right _ (List.mem_append_right _ (List.mem_append_right _ (List.mem_append_right _ (List.mem_append_right _ (List.mem_append_left _ h)))))
theorem lw_t7 {w : Cond} (h : w ∈ tables_1_7) : w ∈ tables_1 := List.mem_append_right _ (List.mem_append_right _ (List.mem_append_right _ (List.mem_append_right _ (List.mem_append_right _ (List.mem_append_right _ h)))))
theorem lw_p0 : lw_okq (⟨"java/lang/Throwable", "fillInStackTrace", "(I)Ljava/lang/Throwable;"⟩, 6) := ⟨⟨by decide +kernel, by decide +kernel⟩, lw_t1 (List.mem_of_getElem? (i := 71) rfl), lw_t1 (List.mem_of_getElem? (i := 69) rfl), lw_t1 (List.mem_of_getElem? (i := 70) rfl)⟩
theorem lw_p1 : lw_okq (⟨"LeftGloves", "made", "(II)LLeftGloves$Glove;"⟩, 11) := ⟨⟨by decide +kernel, by decide +kernel⟩, lw_t1 (List.mem_of_getElem? (i := 26) rfl), lw_t1 (List.mem_of_getElem? (i := 211) rfl), lw_t1 (List.mem_of_getElem? (i := 212) rfl)⟩
theorem lw_p2 : lw_okq (⟨"LeftGloves", "finding", "(I)I"⟩, 11) := ⟨⟨by decide +kernel, by decide +kernel⟩, lw_t1 (List.mem_of_getElem? (i := 26) rfl), lw_t2 (List.mem_of_getElem? (i := 128) rfl), lw_t2 (List.mem_of_getElem? (i := 129) rfl)⟩
theorem lw_p3 : lw_okq (⟨"LeftGloves", "hushedIn", "(I)I"⟩, 11) := ⟨⟨by decide +kernel, by decide +kernel⟩, lw_t1 (List.mem_of_getElem? (i := 26) rfl), lw_t2 (List.mem_of_getElem? (i := 148) rfl), lw_t2 (List.mem_of_getElem? (i := 149) rfl)⟩
theorem lw_p4 : lw_okq (⟨"LeftGloves", "gloveOf", "(I)LLeftGloves$Glove;"⟩, 11) := ⟨⟨by decide +kernel, by decide +kernel⟩, lw_t1 (List.mem_of_getElem? (i := 26) rfl), lw_t2 (List.mem_of_getElem? (i := 153) rfl), lw_t2 (List.mem_of_getElem? (i := 154) rfl)⟩
theorem lw_p5 : lw_okq (⟨"LeftGloves", "isGlove", "(I)Z"⟩, 11) := ⟨⟨by decide +kernel, by decide +kernel⟩, lw_t1 (List.mem_of_getElem? (i := 26) rfl), lw_t2 (List.mem_of_getElem? (i := 214) rfl), lw_t2 (List.mem_of_getElem? (i := 215) rfl)⟩
theorem lw_p6 : lw_okq (⟨"LeftGloves", "drawnOn", "(I)I"⟩, 11) := ⟨⟨by decide +kernel, by decide +kernel⟩, lw_t1 (List.mem_of_getElem? (i := 26) rfl), lw_t3 (List.mem_of_getElem? (i := 108) rfl), lw_t3 (List.mem_of_getElem? (i := 109) rfl)⟩
theorem lw_p7 : lw_okq (⟨"LeftGloves", "goesOn", "(I)I"⟩, 11) := ⟨⟨by decide +kernel, by decide +kernel⟩, lw_t1 (List.mem_of_getElem? (i := 26) rfl), lw_t3 (List.mem_of_getElem? (i := 136) rfl), lw_t3 (List.mem_of_getElem? (i := 137) rfl)⟩
theorem lw_p8 : lw_okq (⟨"LeftGloves", "passes", "(I)V"⟩, 11) := ⟨⟨by decide +kernel, by decide +kernel⟩, lw_t1 (List.mem_of_getElem? (i := 26) rfl), lw_t3 (List.mem_of_getElem? (i := 140) rfl), lw_t3 (List.mem_of_getElem? (i := 141) rfl)⟩
theorem lw_p9 : lw_okq (⟨"LeftGloves", "passes", "()V"⟩, 11) := ⟨⟨by decide +kernel, by decide +kernel⟩, lw_t1 (List.mem_of_getElem? (i := 26) rfl), lw_t3 (List.mem_of_getElem? (i := 144) rfl), lw_t3 (List.mem_of_getElem? (i := 145) rfl)⟩
theorem lw_p10 : lw_okq (⟨"LeftGloves", "hearers", "(I)I"⟩, 11) := ⟨⟨by decide +kernel, by decide +kernel⟩, lw_t1 (List.mem_of_getElem? (i := 26) rfl), lw_t3 (List.mem_of_getElem? (i := 152) rfl), lw_t3 (List.mem_of_getElem? (i := 153) rfl)⟩
theorem lw_p11 : lw_okq (⟨"LeftGloves", "toldBehind", "(III)I"⟩, 11) := ⟨⟨by decide +kernel, by decide +kernel⟩, lw_t1 (List.mem_of_getElem? (i := 26) rfl), lw_t3 (List.mem_of_getElem? (i := 203) rfl), lw_t3 (List.mem_of_getElem? (i := 204) rfl)⟩
theorem lw_p12 : lw_okq (⟨"LeftGloves", "heardBehind", "(II)I"⟩, 11) := ⟨⟨by decide +kernel, by decide +kernel⟩, lw_t1 (List.mem_of_getElem? (i := 26) rfl), lw_t3 (List.mem_of_getElem? (i := 221) rfl), lw_t3 (List.mem_of_getElem? (i := 222) rfl)⟩
theorem lw_p13 : lw_okq (⟨"LeftGloves", "orNone", "(I)I"⟩, 11) := ⟨⟨by decide +kernel, by decide +kernel⟩, lw_t1 (List.mem_of_getElem? (i := 26) rfl), lw_t3 (List.mem_of_getElem? (i := 225) rfl), lw_t3 (List.mem_of_getElem? (i := 226) rfl)⟩
theorem lw_p14 : lw_okq (⟨"LeftGloves", "wiseBehind", "(II)I"⟩, 11) := ⟨⟨by decide +kernel, by decide +kernel⟩, lw_t1 (List.mem_of_getElem? (i := 26) rfl), lw_t3 (List.mem_of_getElem? (i := 236) rfl), lw_t3 (List.mem_of_getElem? (i := 237) rfl)⟩
theorem lw_p15 : lw_okq (⟨"LeftGloves", "outBehind", "(I)I"⟩, 11) := ⟨⟨by decide +kernel, by decide +kernel⟩, lw_t1 (List.mem_of_getElem? (i := 26) rfl), lw_t4 (List.mem_of_getElem? (i := 5) rfl), lw_t4 (List.mem_of_getElem? (i := 6) rfl)⟩
def lw_privs_1 : List (MethodName × Nat) := [(⟨"java/lang/Throwable", "fillInStackTrace", "(I)Ljava/lang/Throwable;"⟩, 6), (⟨"LeftGloves", "made", "(II)LLeftGloves$Glove;"⟩, 11), (⟨"LeftGloves", "finding", "(I)I"⟩, 11), (⟨"LeftGloves", "hushedIn", "(I)I"⟩, 11), (⟨"LeftGloves", "gloveOf", "(I)LLeftGloves$Glove;"⟩, 11), (⟨"LeftGloves", "isGlove", "(I)Z"⟩, 11), (⟨"LeftGloves", "drawnOn", "(I)I"⟩, 11), (⟨"LeftGloves", "goesOn", "(I)I"⟩, 11), (⟨"LeftGloves", "passes", "(I)V"⟩, 11), (⟨"LeftGloves", "passes", "()V"⟩, 11), (⟨"LeftGloves", "hearers", "(I)I"⟩, 11), (⟨"LeftGloves", "toldBehind", "(III)I"⟩, 11), (⟨"LeftGloves", "heardBehind", "(II)I"⟩, 11), (⟨"LeftGloves", "orNone", "(I)I"⟩, 11), (⟨"LeftGloves", "wiseBehind", "(II)I"⟩, 11), (⟨"LeftGloves", "outBehind", "(I)I"⟩, 11)]
theorem lw_r1 : ∀ q ∈ lw_privs_1, lw_okq q := List.forall_mem_cons.mpr ⟨lw_p0, List.forall_mem_cons.mpr ⟨lw_p1, List.forall_mem_cons.mpr ⟨lw_p2, List.forall_mem_cons.mpr ⟨lw_p3, List.forall_mem_cons.mpr ⟨lw_p4, List.forall_mem_cons.mpr ⟨lw_p5, List.forall_mem_cons.mpr ⟨lw_p6, List.forall_mem_cons.mpr ⟨lw_p7, List.forall_mem_cons.mpr ⟨lw_p8, List.forall_mem_cons.mpr ⟨lw_p9, List.forall_mem_cons.mpr ⟨lw_p10, List.forall_mem_cons.mpr ⟨lw_p11, List.forall_mem_cons.mpr ⟨lw_p12, List.forall_mem_cons.mpr ⟨lw_p13, List.forall_mem_cons.mpr ⟨lw_p14, List.forall_mem_cons.mpr ⟨lw_p15, fun _ h => absurd h List.not_mem_nil⟩⟩⟩⟩⟩⟩⟩⟩⟩⟩⟩⟩⟩⟩⟩⟩
theorem lw_p16 : lw_okq (⟨"LeftGloves", "areOne", "(II)Z"⟩, 11) := ⟨⟨by decide +kernel, by decide +kernel⟩, lw_t1 (List.mem_of_getElem? (i := 26) rfl), lw_t4 (List.mem_of_getElem? (i := 13) rfl), lw_t4 (List.mem_of_getElem? (i := 14) rfl)⟩
theorem lw_p17 : lw_okq (⟨"LeftGloves", "mostBy", "(IIII)I"⟩, 11) := ⟨⟨by decide +kernel, by decide +kernel⟩, lw_t1 (List.mem_of_getElem? (i := 26) rfl), lw_t4 (List.mem_of_getElem? (i := 17) rfl), lw_t4 (List.mem_of_getElem? (i := 18) rfl)⟩
theorem lw_p18 : lw_okq (⟨"LeftGloves", "leastOpen", "(III)I"⟩, 11) := ⟨⟨by decide +kernel, by decide +kernel⟩, lw_t1 (List.mem_of_getElem? (i := 26) rfl), lw_t4 (List.mem_of_getElem? (i := 25) rfl), lw_t4 (List.mem_of_getElem? (i := 26) rfl)⟩
theorem lw_p19 : lw_okq (⟨"LeftGloves", "greatestUnheard", "(I)I"⟩, 11) := ⟨⟨by decide +kernel, by decide +kernel⟩, lw_t1 (List.mem_of_getElem? (i := 26) rfl), lw_t4 (List.mem_of_getElem? (i := 37) rfl), lw_t4 (List.mem_of_getElem? (i := 38) rfl)⟩
theorem lw_p20 : lw_okq (⟨"LeftGloves", "fewestKnowing", "(I)I"⟩, 11) := ⟨⟨by decide +kernel, by decide +kernel⟩, lw_t1 (List.mem_of_getElem? (i := 26) rfl), lw_t4 (List.mem_of_getElem? (i := 45) rfl), lw_t4 (List.mem_of_getElem? (i := 46) rfl)⟩
theorem lw_p21 : lw_okq (⟨"LeftGloves", "fewestAway", "(III)I"⟩, 11) := ⟨⟨by decide +kernel, by decide +kernel⟩, lw_t1 (List.mem_of_getElem? (i := 26) rfl), lw_t4 (List.mem_of_getElem? (i := 53) rfl), lw_t4 (List.mem_of_getElem? (i := 54) rfl)⟩
theorem lw_p22 : lw_okq (⟨"LeftGloves", "doesKnowBehind", "(III)Z"⟩, 11) := ⟨⟨by decide +kernel, by decide +kernel⟩, lw_t1 (List.mem_of_getElem? (i := 26) rfl), lw_t4 (List.mem_of_getElem? (i := 57) rfl), lw_t4 (List.mem_of_getElem? (i := 58) rfl)⟩
theorem lw_p23 : lw_okq (⟨"LeftGloves", "allThatFit", "(IIII)I"⟩, 11) := ⟨⟨by decide +kernel, by decide +kernel⟩, lw_t1 (List.mem_of_getElem? (i := 26) rfl), lw_t4 (List.mem_of_getElem? (i := 65) rfl), lw_t4 (List.mem_of_getElem? (i := 66) rfl)⟩
theorem lw_p24 : lw_okq (⟨"LeftGloves", "rowAt", "(I)Ljava/lang/Object;"⟩, 11) := ⟨⟨by decide +kernel, by decide +kernel⟩, lw_t1 (List.mem_of_getElem? (i := 26) rfl), lw_t4 (List.mem_of_getElem? (i := 69) rfl), lw_t4 (List.mem_of_getElem? (i := 70) rfl)⟩
theorem lw_p25 : lw_okq (⟨"LeftGloves", "need", "(ZI)V"⟩, 11) := ⟨⟨by decide +kernel, by decide +kernel⟩, lw_t1 (List.mem_of_getElem? (i := 26) rfl), lw_t4 (List.mem_of_getElem? (i := 76) rfl), lw_t4 (List.mem_of_getElem? (i := 77) rfl)⟩
theorem lw_p26 : lw_okq (⟨"LeftGloves", "refused", "(I)LLeftGloves$Refusal;"⟩, 11) := ⟨⟨by decide +kernel, by decide +kernel⟩, lw_t1 (List.mem_of_getElem? (i := 26) rfl), lw_t4 (List.mem_of_getElem? (i := 80) rfl), lw_t4 (List.mem_of_getElem? (i := 81) rfl)⟩
theorem lw_p27 : lw_okq (⟨"LeftGloves", "wasSo", "(Ljava/lang/Object;I)Z"⟩, 11) := ⟨⟨by decide +kernel, by decide +kernel⟩, lw_t1 (List.mem_of_getElem? (i := 26) rfl), lw_t4 (List.mem_of_getElem? (i := 84) rfl), lw_t4 (List.mem_of_getElem? (i := 85) rfl)⟩
theorem lw_p28 : lw_okq (⟨"LeftGloves", "talked", "(I)I"⟩, 11) := ⟨⟨by decide +kernel, by decide +kernel⟩, lw_t1 (List.mem_of_getElem? (i := 26) rfl), lw_t4 (List.mem_of_getElem? (i := 105) rfl), lw_t4 (List.mem_of_getElem? (i := 106) rfl)⟩
theorem lw_p29 : lw_okq (⟨"LeftGloves$Reader", "next", "()V"⟩, 8) := ⟨⟨by decide +kernel, by decide +kernel⟩, lw_t1 (List.mem_of_getElem? (i := 102) rfl), lw_t4 (List.mem_of_getElem? (i := 143) rfl), lw_t4 (List.mem_of_getElem? (i := 144) rfl)⟩
theorem lw_p30 : lw_okq (⟨"LeftGloves$Reader", "byteAt", "(I)I"⟩, 8) := ⟨⟨by decide +kernel, by decide +kernel⟩, lw_t1 (List.mem_of_getElem? (i := 102) rfl), lw_t4 (List.mem_of_getElem? (i := 147) rfl), lw_t4 (List.mem_of_getElem? (i := 148) rfl)⟩
theorem lw_p31 : lw_okq (⟨"LeftGloves$Reader", "word", "()V"⟩, 8) := ⟨⟨by decide +kernel, by decide +kernel⟩, lw_t1 (List.mem_of_getElem? (i := 102) rfl), lw_t4 (List.mem_of_getElem? (i := 155) rfl), lw_t4 (List.mem_of_getElem? (i := 156) rfl)⟩
def lw_privs_2 : List (MethodName × Nat) := [(⟨"LeftGloves", "areOne", "(II)Z"⟩, 11), (⟨"LeftGloves", "mostBy", "(IIII)I"⟩, 11), (⟨"LeftGloves", "leastOpen", "(III)I"⟩, 11), (⟨"LeftGloves", "greatestUnheard", "(I)I"⟩, 11), (⟨"LeftGloves", "fewestKnowing", "(I)I"⟩, 11), (⟨"LeftGloves", "fewestAway", "(III)I"⟩, 11), (⟨"LeftGloves", "doesKnowBehind", "(III)Z"⟩, 11), (⟨"LeftGloves", "allThatFit", "(IIII)I"⟩, 11), (⟨"LeftGloves", "rowAt", "(I)Ljava/lang/Object;"⟩, 11), (⟨"LeftGloves", "need", "(ZI)V"⟩, 11), (⟨"LeftGloves", "refused", "(I)LLeftGloves$Refusal;"⟩, 11), (⟨"LeftGloves", "wasSo", "(Ljava/lang/Object;I)Z"⟩, 11), (⟨"LeftGloves", "talked", "(I)I"⟩, 11), (⟨"LeftGloves$Reader", "next", "()V"⟩, 8), (⟨"LeftGloves$Reader", "byteAt", "(I)I"⟩, 8), (⟨"LeftGloves$Reader", "word", "()V"⟩, 8)]
theorem lw_r2 : ∀ q ∈ lw_privs_2, lw_okq q := List.forall_mem_cons.mpr ⟨lw_p16, List.forall_mem_cons.mpr ⟨lw_p17, List.forall_mem_cons.mpr ⟨lw_p18, List.forall_mem_cons.mpr ⟨lw_p19, List.forall_mem_cons.mpr ⟨lw_p20, List.forall_mem_cons.mpr ⟨lw_p21, List.forall_mem_cons.mpr ⟨lw_p22, List.forall_mem_cons.mpr ⟨lw_p23, List.forall_mem_cons.mpr ⟨lw_p24, List.forall_mem_cons.mpr ⟨lw_p25, List.forall_mem_cons.mpr ⟨lw_p26, List.forall_mem_cons.mpr ⟨lw_p27, List.forall_mem_cons.mpr ⟨lw_p28, List.forall_mem_cons.mpr ⟨lw_p29, List.forall_mem_cons.mpr ⟨lw_p30, List.forall_mem_cons.mpr ⟨lw_p31, fun _ h => absurd h List.not_mem_nil⟩⟩⟩⟩⟩⟩⟩⟩⟩⟩⟩⟩⟩⟩⟩⟩
theorem lw_p32 : lw_okq (⟨"LeftGloves$Reader", "isKey", "(II)Z"⟩, 8) := ⟨⟨by decide +kernel, by decide +kernel⟩, lw_t1 (List.mem_of_getElem? (i := 102) rfl), lw_t4 (List.mem_of_getElem? (i := 159) rfl), lw_t4 (List.mem_of_getElem? (i := 160) rfl)⟩
theorem lw_p33 : lw_okq (⟨"LeftGloves$Reader", "need", "(Z)V"⟩, 8) := ⟨⟨by decide +kernel, by decide +kernel⟩, lw_t1 (List.mem_of_getElem? (i := 102) rfl), lw_t4 (List.mem_of_getElem? (i := 204) rfl), lw_t4 (List.mem_of_getElem? (i := 205) rfl)⟩
theorem lw_p34 : lw_okq (⟨"LeftGloves$Reader", "digits", "()V"⟩, 8) := ⟨⟨by decide +kernel, by decide +kernel⟩, lw_t1 (List.mem_of_getElem? (i := 102) rfl), lw_t4 (List.mem_of_getElem? (i := 211) rfl), lw_t4 (List.mem_of_getElem? (i := 212) rfl)⟩
theorem lw_p35 : lw_okq (⟨"LeftGloves$Reader", "item", "()V"⟩, 8) := ⟨⟨by decide +kernel, by decide +kernel⟩, lw_t1 (List.mem_of_getElem? (i := 102) rfl), lw_t4 (List.mem_of_getElem? (i := 216) rfl), lw_t4 (List.mem_of_getElem? (i := 217) rfl)⟩
theorem lw_p36 : lw_okq (⟨"LeftGloves$Reader", "said", "()V"⟩, 8) := ⟨⟨by decide +kernel, by decide +kernel⟩, lw_t1 (List.mem_of_getElem? (i := 102) rfl), lw_t4 (List.mem_of_getElem? (i := 220) rfl), lw_t4 (List.mem_of_getElem? (i := 221) rfl)⟩
theorem lw_p37 : lw_okq (⟨"LeftGloves$Reader", "behind", "(II)I"⟩, 8) := ⟨⟨by decide +kernel, by decide +kernel⟩, lw_t1 (List.mem_of_getElem? (i := 102) rfl), lw_t4 (List.mem_of_getElem? (i := 224) rfl), lw_t4 (List.mem_of_getElem? (i := 225) rfl)⟩
theorem lw_p38 : lw_okq (⟨"LeftGloves$Reader", "number", "(II)I"⟩, 8) := ⟨⟨by decide +kernel, by decide +kernel⟩, lw_t1 (List.mem_of_getElem? (i := 102) rfl), lw_t4 (List.mem_of_getElem? (i := 228) rfl), lw_t4 (List.mem_of_getElem? (i := 229) rfl)⟩
theorem lw_p39 : lw_okq (⟨"LeftGloves$Reader", "hand", "()V"⟩, 8) := ⟨⟨by decide +kernel, by decide +kernel⟩, lw_t1 (List.mem_of_getElem? (i := 102) rfl), lw_t4 (List.mem_of_getElem? (i := 233) rfl), lw_t4 (List.mem_of_getElem? (i := 234) rfl)⟩
theorem lw_p40 : lw_okq (⟨"LeftGloves$Reader", "glove", "(I)V"⟩, 8) := ⟨⟨by decide +kernel, by decide +kernel⟩, lw_t1 (List.mem_of_getElem? (i := 102) rfl), lw_t4 (List.mem_of_getElem? (i := 238) rfl), lw_t4 (List.mem_of_getElem? (i := 239) rfl)⟩
theorem lw_p41 : lw_okq (⟨"LeftGloves$Reader", "isWord", "(I)Z"⟩, 8) := ⟨⟨by decide +kernel, by decide +kernel⟩, lw_t1 (List.mem_of_getElem? (i := 102) rfl), lw_t5 (List.mem_of_getElem? (i := 2) rfl), lw_t5 (List.mem_of_getElem? (i := 3) rfl)⟩
theorem lw_p42 : lw_okq (⟨"LeftGloves$Reader", "perhaps", "(III)V"⟩, 8) := ⟨⟨by decide +kernel, by decide +kernel⟩, lw_t1 (List.mem_of_getElem? (i := 102) rfl), lw_t5 (List.mem_of_getElem? (i := 7) rfl), lw_t5 (List.mem_of_getElem? (i := 8) rfl)⟩
theorem lw_p43 : lw_okq (⟨"LeftGloves", "thingAt", "(I)Ljava/lang/Object;"⟩, 11) := ⟨⟨by decide +kernel, by decide +kernel⟩, lw_t1 (List.mem_of_getElem? (i := 26) rfl), lw_t5 (List.mem_of_getElem? (i := 22) rfl), lw_t5 (List.mem_of_getElem? (i := 23) rfl)⟩
theorem lw_p44 : lw_okq (⟨"LeftGloves", "loads", "(Ljava/lang/Object;)I"⟩, 11) := ⟨⟨by decide +kernel, by decide +kernel⟩, lw_t1 (List.mem_of_getElem? (i := 26) rfl), lw_t5 (List.mem_of_getElem? (i := 77) rfl), lw_t5 (List.mem_of_getElem? (i := 78) rfl)⟩
theorem lw_p45 : lw_okq (⟨"LeftGloves", "holding", "()I"⟩, 11) := ⟨⟨by decide +kernel, by decide +kernel⟩, lw_t1 (List.mem_of_getElem? (i := 26) rfl), lw_t5 (List.mem_of_getElem? (i := 101) rfl), lw_t5 (List.mem_of_getElem? (i := 102) rfl)⟩
theorem lw_p46 : lw_okq (⟨"LeftGlovesModel", "becomes", "(II)I"⟩, 18) := ⟨⟨by decide +kernel, by decide +kernel⟩, lw_t5 (List.mem_of_getElem? (i := 109) rfl), lw_t5 (List.mem_of_getElem? (i := 185) rfl), lw_t5 (List.mem_of_getElem? (i := 186) rfl)⟩
theorem lw_p47 : lw_okq (⟨"LeftGlovesModel", "finds", "(I)I"⟩, 18) := ⟨⟨by decide +kernel, by decide +kernel⟩, lw_t5 (List.mem_of_getElem? (i := 109) rfl), lw_t5 (List.mem_of_getElem? (i := 189) rfl), lw_t5 (List.mem_of_getElem? (i := 190) rfl)⟩
def lw_privs_3 : List (MethodName × Nat) := [(⟨"LeftGloves$Reader", "isKey", "(II)Z"⟩, 8), (⟨"LeftGloves$Reader", "need", "(Z)V"⟩, 8), (⟨"LeftGloves$Reader", "digits", "()V"⟩, 8), (⟨"LeftGloves$Reader", "item", "()V"⟩, 8), (⟨"LeftGloves$Reader", "said", "()V"⟩, 8), (⟨"LeftGloves$Reader", "behind", "(II)I"⟩, 8), (⟨"LeftGloves$Reader", "number", "(II)I"⟩, 8), (⟨"LeftGloves$Reader", "hand", "()V"⟩, 8), (⟨"LeftGloves$Reader", "glove", "(I)V"⟩, 8), (⟨"LeftGloves$Reader", "isWord", "(I)Z"⟩, 8), (⟨"LeftGloves$Reader", "perhaps", "(III)V"⟩, 8), (⟨"LeftGloves", "thingAt", "(I)Ljava/lang/Object;"⟩, 11), (⟨"LeftGloves", "loads", "(Ljava/lang/Object;)I"⟩, 11), (⟨"LeftGloves", "holding", "()I"⟩, 11), (⟨"LeftGlovesModel", "becomes", "(II)I"⟩, 18), (⟨"LeftGlovesModel", "finds", "(I)I"⟩, 18)]
theorem lw_r3 : ∀ q ∈ lw_privs_3, lw_okq q := List.forall_mem_cons.mpr ⟨lw_p32, List.forall_mem_cons.mpr ⟨lw_p33, List.forall_mem_cons.mpr ⟨lw_p34, List.forall_mem_cons.mpr ⟨lw_p35, List.forall_mem_cons.mpr ⟨lw_p36, List.forall_mem_cons.mpr ⟨lw_p37, List.forall_mem_cons.mpr ⟨lw_p38, List.forall_mem_cons.mpr ⟨lw_p39, List.forall_mem_cons.mpr ⟨lw_p40, List.forall_mem_cons.mpr ⟨lw_p41, List.forall_mem_cons.mpr ⟨lw_p42, List.forall_mem_cons.mpr ⟨lw_p43, List.forall_mem_cons.mpr ⟨lw_p44, List.forall_mem_cons.mpr ⟨lw_p45, List.forall_mem_cons.mpr ⟨lw_p46, List.forall_mem_cons.mpr ⟨lw_p47, fun _ h => absurd h List.not_mem_nil⟩⟩⟩⟩⟩⟩⟩⟩⟩⟩⟩⟩⟩⟩⟩⟩
theorem lw_p48 : lw_okq (⟨"LeftGlovesModel", "isIn", "(II)Z"⟩, 18) := ⟨⟨by decide +kernel, by decide +kernel⟩, lw_t5 (List.mem_of_getElem? (i := 109) rfl), lw_t5 (List.mem_of_getElem? (i := 203) rfl), lw_t5 (List.mem_of_getElem? (i := 204) rfl)⟩
theorem lw_p49 : lw_okq (⟨"LeftGlovesModel", "its", "(II)I"⟩, 18) := ⟨⟨by decide +kernel, by decide +kernel⟩, lw_t5 (List.mem_of_getElem? (i := 109) rfl), lw_t5 (List.mem_of_getElem? (i := 207) rfl), lw_t5 (List.mem_of_getElem? (i := 208) rfl)⟩
theorem lw_p50 : lw_okq (⟨"LeftGlovesModel", "hushIn", "(I)I"⟩, 18) := ⟨⟨by decide +kernel, by decide +kernel⟩, lw_t5 (List.mem_of_getElem? (i := 109) rfl), lw_t5 (List.mem_of_getElem? (i := 211) rfl), lw_t5 (List.mem_of_getElem? (i := 212) rfl)⟩
theorem lw_p51 : lw_okq (⟨"LeftGlovesModel", "hushes", "(I)I"⟩, 18) := ⟨⟨by decide +kernel, by decide +kernel⟩, lw_t5 (List.mem_of_getElem? (i := 109) rfl), lw_t5 (List.mem_of_getElem? (i := 215) rfl), lw_t5 (List.mem_of_getElem? (i := 216) rfl)⟩
theorem lw_p52 : lw_okq (⟨"LeftGlovesModel", "known", "(II)I"⟩, 18) := ⟨⟨by decide +kernel, by decide +kernel⟩, lw_t5 (List.mem_of_getElem? (i := 109) rfl), lw_t5 (List.mem_of_getElem? (i := 219) rfl), lw_t5 (List.mem_of_getElem? (i := 220) rfl)⟩
theorem lw_p53 : lw_okq (⟨"LeftGlovesModel", "comes", "(II)I"⟩, 18) := ⟨⟨by decide +kernel, by decide +kernel⟩, lw_t5 (List.mem_of_getElem? (i := 109) rfl), lw_t5 (List.mem_of_getElem? (i := 228) rfl), lw_t5 (List.mem_of_getElem? (i := 229) rfl)⟩
theorem lw_p54 : lw_okq (⟨"LeftGlovesModel", "sets", "(III)V"⟩, 18) := ⟨⟨by decide +kernel, by decide +kernel⟩, lw_t5 (List.mem_of_getElem? (i := 109) rfl), lw_t5 (List.mem_of_getElem? (i := 232) rfl), lw_t5 (List.mem_of_getElem? (i := 233) rfl)⟩
theorem lw_p55 : lw_okq (⟨"LeftGlovesModel", "isGlove", "(I)Z"⟩, 18) := ⟨⟨by decide +kernel, by decide +kernel⟩, lw_t5 (List.mem_of_getElem? (i := 109) rfl), lw_t6 (List.mem_of_getElem? (i := 0) rfl), lw_t6 (List.mem_of_getElem? (i := 1) rfl)⟩
theorem lw_p56 : lw_okq (⟨"LeftGlovesModel", "needs", "(I)I"⟩, 18) := ⟨⟨by decide +kernel, by decide +kernel⟩, lw_t5 (List.mem_of_getElem? (i := 109) rfl), lw_t6 (List.mem_of_getElem? (i := 5) rfl), lw_t6 (List.mem_of_getElem? (i := 6) rfl)⟩
theorem lw_p57 : lw_okq (⟨"LeftGlovesModel", "hasOther", "(I)Z"⟩, 18) := ⟨⟨by decide +kernel, by decide +kernel⟩, lw_t5 (List.mem_of_getElem? (i := 109) rfl), lw_t6 (List.mem_of_getElem? (i := 12) rfl), lw_t6 (List.mem_of_getElem? (i := 13) rfl)⟩
theorem lw_p58 : lw_okq (⟨"LeftGlovesModel", "stays", "(I)I"⟩, 18) := ⟨⟨by decide +kernel, by decide +kernel⟩, lw_t5 (List.mem_of_getElem? (i := 109) rfl), lw_t6 (List.mem_of_getElem? (i := 16) rfl), lw_t6 (List.mem_of_getElem? (i := 17) rfl)⟩
theorem lw_p59 : lw_okq (⟨"LeftGlovesModel", "keeps", "(I)I"⟩, 18) := ⟨⟨by decide +kernel, by decide +kernel⟩, lw_t5 (List.mem_of_getElem? (i := 109) rfl), lw_t6 (List.mem_of_getElem? (i := 20) rfl), lw_t6 (List.mem_of_getElem? (i := 21) rfl)⟩
theorem lw_p60 : lw_okq (⟨"LeftGlovesModel", "drawnOn", "(I)V"⟩, 18) := ⟨⟨by decide +kernel, by decide +kernel⟩, lw_t5 (List.mem_of_getElem? (i := 109) rfl), lw_t6 (List.mem_of_getElem? (i := 36) rfl), lw_t6 (List.mem_of_getElem? (i := 37) rfl)⟩
theorem lw_p61 : lw_okq (⟨"LeftGlovesModel", "daysGo", "(I)V"⟩, 18) := ⟨⟨by decide +kernel, by decide +kernel⟩, lw_t5 (List.mem_of_getElem? (i := 109) rfl), lw_t6 (List.mem_of_getElem? (i := 54) rfl), lw_t6 (List.mem_of_getElem? (i := 55) rfl)⟩
theorem lw_p62 : lw_okq (⟨"LeftGlovesModel", "dayGoes", "()V"⟩, 18) := ⟨⟨by decide +kernel, by decide +kernel⟩, lw_t5 (List.mem_of_getElem? (i := 109) rfl), lw_t6 (List.mem_of_getElem? (i := 58) rfl), lw_t6 (List.mem_of_getElem? (i := 59) rfl)⟩
theorem lw_p63 : lw_okq (⟨"LeftGlovesModel", "todays", "()I"⟩, 18) := ⟨⟨by decide +kernel, by decide +kernel⟩, lw_t5 (List.mem_of_getElem? (i := 109) rfl), lw_t6 (List.mem_of_getElem? (i := 62) rfl), lw_t6 (List.mem_of_getElem? (i := 63) rfl)⟩
def lw_privs_4 : List (MethodName × Nat) := [(⟨"LeftGlovesModel", "isIn", "(II)Z"⟩, 18), (⟨"LeftGlovesModel", "its", "(II)I"⟩, 18), (⟨"LeftGlovesModel", "hushIn", "(I)I"⟩, 18), (⟨"LeftGlovesModel", "hushes", "(I)I"⟩, 18), (⟨"LeftGlovesModel", "known", "(II)I"⟩, 18), (⟨"LeftGlovesModel", "comes", "(II)I"⟩, 18), (⟨"LeftGlovesModel", "sets", "(III)V"⟩, 18), (⟨"LeftGlovesModel", "isGlove", "(I)Z"⟩, 18), (⟨"LeftGlovesModel", "needs", "(I)I"⟩, 18), (⟨"LeftGlovesModel", "hasOther", "(I)Z"⟩, 18), (⟨"LeftGlovesModel", "stays", "(I)I"⟩, 18), (⟨"LeftGlovesModel", "keeps", "(I)I"⟩, 18), (⟨"LeftGlovesModel", "drawnOn", "(I)V"⟩, 18), (⟨"LeftGlovesModel", "daysGo", "(I)V"⟩, 18), (⟨"LeftGlovesModel", "dayGoes", "()V"⟩, 18), (⟨"LeftGlovesModel", "todays", "()I"⟩, 18)]
theorem lw_r4 : ∀ q ∈ lw_privs_4, lw_okq q := List.forall_mem_cons.mpr ⟨lw_p48, List.forall_mem_cons.mpr ⟨lw_p49, List.forall_mem_cons.mpr ⟨lw_p50, List.forall_mem_cons.mpr ⟨lw_p51, List.forall_mem_cons.mpr ⟨lw_p52, List.forall_mem_cons.mpr ⟨lw_p53, List.forall_mem_cons.mpr ⟨lw_p54, List.forall_mem_cons.mpr ⟨lw_p55, List.forall_mem_cons.mpr ⟨lw_p56, List.forall_mem_cons.mpr ⟨lw_p57, List.forall_mem_cons.mpr ⟨lw_p58, List.forall_mem_cons.mpr ⟨lw_p59, List.forall_mem_cons.mpr ⟨lw_p60, List.forall_mem_cons.mpr ⟨lw_p61, List.forall_mem_cons.mpr ⟨lw_p62, List.forall_mem_cons.mpr ⟨lw_p63, fun _ h => absurd h List.not_mem_nil⟩⟩⟩⟩⟩⟩⟩⟩⟩⟩⟩⟩⟩⟩⟩⟩
theorem lw_p64 : lw_okq (⟨"LeftGlovesModel", "hearers", "(I)I"⟩, 18) := ⟨⟨by decide +kernel, by decide +kernel⟩, lw_t5 (List.mem_of_getElem? (i := 109) rfl), lw_t6 (List.mem_of_getElem? (i := 66) rfl), lw_t6 (List.mem_of_getElem? (i := 67) rfl)⟩
theorem lw_p65 : lw_okq (⟨"LeftGlovesModel", "learns", "(II)V"⟩, 18) := ⟨⟨by decide +kernel, by decide +kernel⟩, lw_t5 (List.mem_of_getElem? (i := 109) rfl), lw_t6 (List.mem_of_getElem? (i := 70) rfl), lw_t6 (List.mem_of_getElem? (i := 71) rfl)⟩
theorem lw_p66 : lw_okq (⟨"LeftGlovesModel", "allKnow", "()I"⟩, 18) := ⟨⟨by decide +kernel, by decide +kernel⟩, lw_t5 (List.mem_of_getElem? (i := 109) rfl), lw_t6 (List.mem_of_getElem? (i := 77) rfl), lw_t6 (List.mem_of_getElem? (i := 78) rfl)⟩
theorem lw_p67 : lw_okq (⟨"LeftGlovesModel", "allHands", "()I"⟩, 18) := ⟨⟨by decide +kernel, by decide +kernel⟩, lw_t5 (List.mem_of_getElem? (i := 109) rfl), lw_t6 (List.mem_of_getElem? (i := 85) rfl), lw_t6 (List.mem_of_getElem? (i := 86) rfl)⟩
theorem lw_p68 : lw_okq (⟨"LeftGlovesModel", "allDrawn", "()I"⟩, 18) := ⟨⟨by decide +kernel, by decide +kernel⟩, lw_t5 (List.mem_of_getElem? (i := 109) rfl), lw_t6 (List.mem_of_getElem? (i := 89) rfl), lw_t6 (List.mem_of_getElem? (i := 90) rfl)⟩
theorem lw_p69 : lw_okq (⟨"LeftGlovesModel", "wisest", "()I"⟩, 18) := ⟨⟨by decide +kernel, by decide +kernel⟩, lw_t5 (List.mem_of_getElem? (i := 109) rfl), lw_t6 (List.mem_of_getElem? (i := 93) rfl), lw_t6 (List.mem_of_getElem? (i := 94) rfl)⟩
theorem lw_p70 : lw_okq (⟨"LeftGlovesModel", "behind", "(II)I"⟩, 18) := ⟨⟨by decide +kernel, by decide +kernel⟩, lw_t5 (List.mem_of_getElem? (i := 109) rfl), lw_t6 (List.mem_of_getElem? (i := 105) rfl), lw_t6 (List.mem_of_getElem? (i := 106) rfl)⟩
theorem lw_p71 : lw_okq (⟨"LeftGlovesModel", "areKnown", "(I)Z"⟩, 18) := ⟨⟨by decide +kernel, by decide +kernel⟩, lw_t5 (List.mem_of_getElem? (i := 109) rfl), lw_t6 (List.mem_of_getElem? (i := 126) rfl), lw_t6 (List.mem_of_getElem? (i := 127) rfl)⟩
theorem lw_p72 : lw_okq (⟨"LeftGlovesModel", "bestOf", "(IIII)I"⟩, 18) := ⟨⟨by decide +kernel, by decide +kernel⟩, lw_t5 (List.mem_of_getElem? (i := 109) rfl), lw_t6 (List.mem_of_getElem? (i := 134) rfl), lw_t6 (List.mem_of_getElem? (i := 135) rfl)⟩
theorem lw_p73 : lw_okq (⟨"LeftGlovesModel", "whyNot", "(II)I"⟩, 18) := ⟨⟨by decide +kernel, by decide +kernel⟩, lw_t5 (List.mem_of_getElem? (i := 109) rfl), lw_t6 (List.mem_of_getElem? (i := 163) rfl), lw_t6 (List.mem_of_getElem? (i := 164) rfl)⟩
theorem lw_p74 : lw_okq (⟨"LeftGlovesModel", "whyNone", "(I)I"⟩, 18) := ⟨⟨by decide +kernel, by decide +kernel⟩, lw_t5 (List.mem_of_getElem? (i := 109) rfl), lw_t6 (List.mem_of_getElem? (i := 167) rfl), lw_t6 (List.mem_of_getElem? (i := 168) rfl)⟩
theorem lw_p75 : lw_okq (⟨"LeftGlovesModel", "fitting", "(IIII)I"⟩, 18) := ⟨⟨by decide +kernel, by decide +kernel⟩, lw_t5 (List.mem_of_getElem? (i := 109) rfl), lw_t6 (List.mem_of_getElem? (i := 174) rfl), lw_t6 (List.mem_of_getElem? (i := 175) rfl)⟩
theorem lw_p76 : lw_okq (⟨"LeftGlovesModel", "drawOne", "()I"⟩, 18) := ⟨⟨by decide +kernel, by decide +kernel⟩, lw_t5 (List.mem_of_getElem? (i := 109) rfl), lw_t6 (List.mem_of_getElem? (i := 186) rfl), lw_t6 (List.mem_of_getElem? (i := 187) rfl)⟩
theorem lw_p77 : lw_okq (⟨"LeftGlovesModel", "items", "()I"⟩, 18) := ⟨⟨by decide +kernel, by decide +kernel⟩, lw_t5 (List.mem_of_getElem? (i := 109) rfl), lw_t6 (List.mem_of_getElem? (i := 212) rfl), lw_t6 (List.mem_of_getElem? (i := 213) rfl)⟩
theorem lw_p78 : lw_okq (⟨"LeftGlovesModel", "next", "()V"⟩, 18) := ⟨⟨by decide +kernel, by decide +kernel⟩, lw_t5 (List.mem_of_getElem? (i := 109) rfl), lw_t6 (List.mem_of_getElem? (i := 216) rfl), lw_t6 (List.mem_of_getElem? (i := 217) rfl)⟩
theorem lw_p79 : lw_okq (⟨"LeftGlovesModel", "byteAt", "(I)I"⟩, 18) := ⟨⟨by decide +kernel, by decide +kernel⟩, lw_t5 (List.mem_of_getElem? (i := 109) rfl), lw_t6 (List.mem_of_getElem? (i := 220) rfl), lw_t6 (List.mem_of_getElem? (i := 221) rfl)⟩
def lw_privs_5 : List (MethodName × Nat) := [(⟨"LeftGlovesModel", "hearers", "(I)I"⟩, 18), (⟨"LeftGlovesModel", "learns", "(II)V"⟩, 18), (⟨"LeftGlovesModel", "allKnow", "()I"⟩, 18), (⟨"LeftGlovesModel", "allHands", "()I"⟩, 18), (⟨"LeftGlovesModel", "allDrawn", "()I"⟩, 18), (⟨"LeftGlovesModel", "wisest", "()I"⟩, 18), (⟨"LeftGlovesModel", "behind", "(II)I"⟩, 18), (⟨"LeftGlovesModel", "areKnown", "(I)Z"⟩, 18), (⟨"LeftGlovesModel", "bestOf", "(IIII)I"⟩, 18), (⟨"LeftGlovesModel", "whyNot", "(II)I"⟩, 18), (⟨"LeftGlovesModel", "whyNone", "(I)I"⟩, 18), (⟨"LeftGlovesModel", "fitting", "(IIII)I"⟩, 18), (⟨"LeftGlovesModel", "drawOne", "()I"⟩, 18), (⟨"LeftGlovesModel", "items", "()I"⟩, 18), (⟨"LeftGlovesModel", "next", "()V"⟩, 18), (⟨"LeftGlovesModel", "byteAt", "(I)I"⟩, 18)]
theorem lw_r5 : ∀ q ∈ lw_privs_5, lw_okq q := List.forall_mem_cons.mpr ⟨lw_p64, List.forall_mem_cons.mpr ⟨lw_p65, List.forall_mem_cons.mpr ⟨lw_p66, List.forall_mem_cons.mpr ⟨lw_p67, List.forall_mem_cons.mpr ⟨lw_p68, List.forall_mem_cons.mpr ⟨lw_p69, List.forall_mem_cons.mpr ⟨lw_p70, List.forall_mem_cons.mpr ⟨lw_p71, List.forall_mem_cons.mpr ⟨lw_p72, List.forall_mem_cons.mpr ⟨lw_p73, List.forall_mem_cons.mpr ⟨lw_p74, List.forall_mem_cons.mpr ⟨lw_p75, List.forall_mem_cons.mpr ⟨lw_p76, List.forall_mem_cons.mpr ⟨lw_p77, List.forall_mem_cons.mpr ⟨lw_p78, List.forall_mem_cons.mpr ⟨lw_p79, fun _ h => absurd h List.not_mem_nil⟩⟩⟩⟩⟩⟩⟩⟩⟩⟩⟩⟩⟩⟩⟩⟩
theorem lw_p80 : lw_okq (⟨"LeftGlovesModel", "item", "()V"⟩, 18) := ⟨⟨by decide +kernel, by decide +kernel⟩, lw_t5 (List.mem_of_getElem? (i := 109) rfl), lw_t6 (List.mem_of_getElem? (i := 234) rfl), lw_t6 (List.mem_of_getElem? (i := 235) rfl)⟩
theorem lw_p81 : lw_okq (⟨"LeftGlovesModel", "kindHere", "()I"⟩, 18) := ⟨⟨by decide +kernel, by decide +kernel⟩, lw_t5 (List.mem_of_getElem? (i := 109) rfl), lw_t6 (List.mem_of_getElem? (i := 238) rfl), lw_t6 (List.mem_of_getElem? (i := 239) rfl)⟩
theorem lw_p82 : lw_okq (⟨"LeftGlovesModel", "isWord", "(J)Z"⟩, 18) := ⟨⟨by decide +kernel, by decide +kernel⟩, lw_t5 (List.mem_of_getElem? (i := 109) rfl), lw_t7 (List.mem_of_getElem? (i := 3) rfl), lw_t7 (List.mem_of_getElem? (i := 4) rfl)⟩
theorem lw_p83 : lw_okq (⟨"LeftGlovesModel", "gloveHere", "(I)V"⟩, 18) := ⟨⟨by decide +kernel, by decide +kernel⟩, lw_t5 (List.mem_of_getElem? (i := 109) rfl), lw_t7 (List.mem_of_getElem? (i := 13) rfl), lw_t7 (List.mem_of_getElem? (i := 14) rfl)⟩
theorem lw_p84 : lw_okq (⟨"LeftGlovesModel", "wrongHere", "()V"⟩, 18) := ⟨⟨by decide +kernel, by decide +kernel⟩, lw_t5 (List.mem_of_getElem? (i := 109) rfl), lw_t7 (List.mem_of_getElem? (i := 17) rfl), lw_t7 (List.mem_of_getElem? (i := 18) rfl)⟩
theorem lw_p85 : lw_okq (⟨"LeftGlovesModel", "perhaps", "(JII)V"⟩, 18) := ⟨⟨by decide +kernel, by decide +kernel⟩, lw_t5 (List.mem_of_getElem? (i := 109) rfl), lw_t7 (List.mem_of_getElem? (i := 22) rfl), lw_t7 (List.mem_of_getElem? (i := 23) rfl)⟩
theorem lw_p86 : lw_okq (⟨"LeftGlovesModel", "numberHere", "(I)I"⟩, 18) := ⟨⟨by decide +kernel, by decide +kernel⟩, lw_t5 (List.mem_of_getElem? (i := 109) rfl), lw_t7 (List.mem_of_getElem? (i := 26) rfl), lw_t7 (List.mem_of_getElem? (i := 27) rfl)⟩
theorem lw_p87 : lw_okq (⟨"LeftGlovesModel", "saidHere", "()V"⟩, 18) := ⟨⟨by decide +kernel, by decide +kernel⟩, lw_t5 (List.mem_of_getElem? (i := 109) rfl), lw_t7 (List.mem_of_getElem? (i := 34) rfl), lw_t7 (List.mem_of_getElem? (i := 35) rfl)⟩
theorem lw_p88 : lw_okq (⟨"LeftGlovesModel", "handHere", "()V"⟩, 18) := ⟨⟨by decide +kernel, by decide +kernel⟩, lw_t5 (List.mem_of_getElem? (i := 109) rfl), lw_t7 (List.mem_of_getElem? (i := 39) rfl), lw_t7 (List.mem_of_getElem? (i := 40) rfl)⟩
theorem lw_p89 : lw_okq (⟨"LeftGlovesModel", "holding", "()I"⟩, 18) := ⟨⟨by decide +kernel, by decide +kernel⟩, lw_t5 (List.mem_of_getElem? (i := 109) rfl), lw_t7 (List.mem_of_getElem? (i := 92) rfl), lw_t7 (List.mem_of_getElem? (i := 93) rfl)⟩
def lw_privs_6 : List (MethodName × Nat) := [(⟨"LeftGlovesModel", "item", "()V"⟩, 18), (⟨"LeftGlovesModel", "kindHere", "()I"⟩, 18), (⟨"LeftGlovesModel", "isWord", "(J)Z"⟩, 18), (⟨"LeftGlovesModel", "gloveHere", "(I)V"⟩, 18), (⟨"LeftGlovesModel", "wrongHere", "()V"⟩, 18), (⟨"LeftGlovesModel", "perhaps", "(JII)V"⟩, 18), (⟨"LeftGlovesModel", "numberHere", "(I)I"⟩, 18), (⟨"LeftGlovesModel", "saidHere", "()V"⟩, 18), (⟨"LeftGlovesModel", "handHere", "()V"⟩, 18), (⟨"LeftGlovesModel", "holding", "()I"⟩, 18)]
theorem lw_r6 : ∀ q ∈ lw_privs_6, lw_okq q := List.forall_mem_cons.mpr ⟨lw_p80, List.forall_mem_cons.mpr ⟨lw_p81, List.forall_mem_cons.mpr ⟨lw_p82, List.forall_mem_cons.mpr ⟨lw_p83, List.forall_mem_cons.mpr ⟨lw_p84, List.forall_mem_cons.mpr ⟨lw_p85, List.forall_mem_cons.mpr ⟨lw_p86, List.forall_mem_cons.mpr ⟨lw_p87, List.forall_mem_cons.mpr ⟨lw_p88, List.forall_mem_cons.mpr ⟨lw_p89, fun _ h => absurd h List.not_mem_nil⟩⟩⟩⟩⟩⟩⟩⟩⟩⟩
def lw_privs : List (MethodName × Nat) := lw_privs_1 ++ (lw_privs_2 ++ (lw_privs_3 ++ (lw_privs_4 ++ (lw_privs_5 ++ (lw_privs_6)))))
def lw_tbl : List Cond := k2_sels lw_privs ++ tables_1
theorem lw_privs_ok : ∀ q ∈ lw_privs, lw_okq q := by
  show ∀ q ∈ lw_privs_1 ++ (lw_privs_2 ++ (lw_privs_3 ++ (lw_privs_4 ++ (lw_privs_5 ++ (lw_privs_6))))), lw_okq q
  exact List.forall_mem_append.mpr ⟨lw_r1, List.forall_mem_append.mpr ⟨lw_r2, List.forall_mem_append.mpr ⟨lw_r3, List.forall_mem_append.mpr ⟨lw_r4, List.forall_mem_append.mpr ⟨lw_r5, lw_r6⟩⟩⟩⟩⟩
-- ===== ONE list of words for every method: the tables' words that hold all through a run =====
def lw_all : List Cond := lw_tbl.filter goodWord
/-- a word of the tables by its place: claim/WORDS.tsv -/
theorem lw_w {w : Cond} (i : Nat) (h : lw_tbl[i]? = some w) (g : goodWord w = true) : w ∈ lw_all := List.mem_filter.mpr ⟨List.mem_of_getElem? h, g⟩
theorem lw_all_tbl {w : Cond} (h : w ∈ lw_all) : w ∈ lw_tbl := (List.mem_filter.mp h).1
theorem lw_self : GoodIn lw_all lw_all := fun w h => ⟨h, good_of_word (List.mem_filter.mp h).2⟩
/-- a class's field words, by their places -/
theorem lw_in (ws : List Cond) (ps : List Nat) (hp : ws = ps.filterMap (fun i => lw_tbl[i]?)) (hg : ws.all goodWord = true) : ∀ w ∈ ws, w ∈ lw_all := by
  intro w h
  have h1 := List.all_eq_true.mp hg w h
  rw [hp] at h
  obtain ⟨i, -, hi⟩ := List.mem_filterMap.mp h
  exact lw_w i hi h1
/-- the words of a contract for the method y with code b, L locals, answer r -/
abbrev ws_ (y : MethodName) (b : ByteArray) (L : Nat) (r : Option FieldType) : List Cond := Cond.code y b L r :: lw_all
theorem lw_meth {y : MethodName} {b : ByteArray} {L : Nat} {r : Option FieldType} (h : Cond.code y b L r ∈ lw_all) : GoodIn lw_all (ws_ y b L r) := by
  intro w hw
  rcases List.mem_cons.mp hw with e | e
  · rw [e]
    exact lw_self _ h
  · exact lw_self _ e
theorem lw_app {a c : List Cond} (ha : ∀ w ∈ a, w ∈ lw_all) (hc : GoodIn lw_all c) : GoodIn lw_all (a ++ c) := by
  intro w hw
  rcases List.mem_append.mp hw with e | e
  · exact lw_self w (ha w e)
  · exact hc w e
/-- what a call through an object asks: cwV n hts (lw_V ..) -/
theorem lw_V {own : String} {idx : Nat} {C : String} {y : MethodName} {b : ByteArray} {L : Nat} {r : Option FieldType} (h1 : Cond.methodLink own idx y ∈ lw_all) (h2 : Cond.instanceMethod y ∈ lw_all) (h3 : Cond.selects C y y ∈ lw_all) (h4 : Cond.initialized C ∈ lw_all) (h5 : Cond.code y b L r ∈ lw_all) : GoodIn lw_all (wsV own idx C y (ws_ y b L r)) := by
  refine lw_app ?_ (lw_meth h5)
  intro w hw
  simp only [List.mem_cons, List.not_mem_nil, or_false] at hw
  rcases hw with e | e | e | e
  · rw [e]; exact h1
  · rw [e]; exact h2
  · rw [e]; exact h3
  · rw [e]; exact h4
/-- what a static call asks: va_cwS n hts (lw_S ..) -/
theorem lw_S {own : String} {idx : Nat} {y : MethodName} {b : ByteArray} {L : Nat} {r : Option FieldType} (h1 : Cond.methodLink own idx y ∈ lw_all) (h2 : Cond.static y ∈ lw_all) (h3 : Cond.initialized y.cls ∈ lw_all) (h4 : Cond.code y b L r ∈ lw_all) : GoodIn lw_all (va_wsS own idx y (ws_ y b L r)) := by
  refine lw_app ?_ (lw_meth h4)
  intro w hw
  simp only [List.mem_cons, List.not_mem_nil, or_false] at hw
  rcases hw with e | e | e
  · rw [e]; exact h1
  · rw [e]; exact h2
  · rw [e]; exact h3
/-- the words of a contract for a method WITH HANDLERS (hh: its table) -/
abbrev wsW_ (y : MethodName) (b : ByteArray) (L : Nat) (r : Option FieldType) (hh : List (Nat × Nat × Nat × Nat)) : List Cond := Cond.codeWith y b L r hh :: lw_all
theorem lw_methW {y : MethodName} {b : ByteArray} {L : Nat} {r : Option FieldType} {hh : List (Nat × Nat × Nat × Nat)} (h : Cond.codeWith y b L r hh ∈ lw_all) : GoodIn lw_all (wsW_ y b L r hh) := by
  intro w hw
  rcases List.mem_cons.mp hw with e | e
  · rw [e]
    exact lw_self _ h
  · exact lw_self _ e
/-- any list of words by their places (lw_in), good -/
theorem lw_good {ws : List Cond} (h : ∀ w ∈ ws, w ∈ lw_all) : GoodIn lw_all ws := fun w hw => lw_self w (h w hw)
/-- what a call of a method with handlers asks: vx_cwVW n hts (lw_VW ..), vx_cwSW n hts (lw_SW ..) -/
theorem lw_VW {own : String} {idx : Nat} {C : String} {y : MethodName} {b : ByteArray} {L : Nat} {r : Option FieldType} {hh : List (Nat × Nat × Nat × Nat)} (h1 : Cond.methodLink own idx y ∈ lw_all) (h2 : Cond.instanceMethod y ∈ lw_all) (h3 : Cond.selects C y y ∈ lw_all) (h4 : Cond.initialized C ∈ lw_all) (h5 : Cond.codeWith y b L r hh ∈ lw_all) : GoodIn lw_all (wsV own idx C y (wsW_ y b L r hh)) := by
  refine lw_app ?_ (lw_methW h5)
  intro w hw
  simp only [List.mem_cons, List.not_mem_nil, or_false] at hw
  rcases hw with e | e | e | e
  · rw [e]; exact h1
  · rw [e]; exact h2
  · rw [e]; exact h3
  · rw [e]; exact h4
theorem lw_SW {own : String} {idx : Nat} {y : MethodName} {b : ByteArray} {L : Nat} {r : Option FieldType} {hh : List (Nat × Nat × Nat × Nat)} (h1 : Cond.methodLink own idx y ∈ lw_all) (h2 : Cond.static y ∈ lw_all) (h3 : Cond.initialized y.cls ∈ lw_all) (h4 : Cond.codeWith y b L r hh ∈ lw_all) : GoodIn lw_all (va_wsS own idx y (wsW_ y b L r hh)) := by
  refine lw_app ?_ (lw_methW h4)
  intro w hw
  simp only [List.mem_cons, List.not_mem_nil, or_false] at hw
  rcases hw with e | e | e
  · rw [e]; exact h1
  · rw [e]; exact h2
  · rw [e]; exact h3
/-- a word by its place in its run of the tables -/
theorem lw_at {r : List Cond} (hr : ∀ w ∈ r, w ∈ lw_tbl) {w : Cond} (i : Nat) (h : r[i]? = some w) : w ∈ lw_tbl := hr w (List.mem_of_getElem? h)
theorem lw_g {w : Cond} (h : w ∈ lw_tbl) (g : goodWord w = true) : w ∈ lw_all := List.mem_filter.mpr ⟨h, g⟩
theorem lw_ms : ∀ w ∈ k2_sels lw_privs, w ∈ lw_tbl := fun w h => show w ∈ k2_sels lw_privs ++ tables_1 from List.mem_append_left _ h
theorem lw_m1 : ∀ w ∈ tables_1_1, w ∈ lw_tbl := fun w h => show w ∈ k2_sels lw_privs ++ tables_1 from List.mem_append_right (k2_sels lw_privs) (show w ∈ tables_1 from List.mem_append_left _ h)
theorem lw_m2 : ∀ w ∈ tables_1_2, w ∈ lw_tbl := fun w h => show w ∈ k2_sels lw_privs ++ tables_1 from List.mem_append_right (k2_sels lw_privs) (show w ∈ tables_1 from List.mem_append_right _ (List.mem_append_left _ h))
theorem lw_m3 : ∀ w ∈ tables_1_3, w ∈ lw_tbl := fun w h => show w ∈ k2_sels lw_privs ++ tables_1 from List.mem_append_right (k2_sels lw_privs) (show w ∈ tables_1 from List.mem_append_right _ (List.mem_append_right _ (List.mem_append_left _ h)))
theorem lw_m4 : ∀ w ∈ tables_1_4, w ∈ lw_tbl := fun w h => show w ∈ k2_sels lw_privs ++ tables_1 from List.mem_append_right (k2_sels lw_privs) (show w ∈ tables_1 from List.mem_append_right _ (List.mem_append_right _ (List.mem_append_right _ (List.mem_append_left _ h))))
theorem lw_m5 : ∀ w ∈ tables_1_5, w ∈ lw_tbl := fun w h => show w ∈ k2_sels lw_privs ++ tables_1 from List.mem_append_right (k2_sels lw_privs) (show w ∈ tables_1 from List.mem_append_right _ (List.mem_append_right _ (List.mem_append_right _ (List.mem_append_right _ (List.mem_append_left _ h)))))
theorem lw_m6 : ∀ w ∈ tables_1_6, w ∈ lw_tbl := fun w h => show w ∈ k2_sels lw_privs ++ tables_1 from List.mem_append_right (k2_sels lw_privs) (show w ∈ tables_1 from List.mem_append_right _ (List.mem_append_right _ (List.mem_append_right _ (List.mem_append_right _ (List.mem_append_right _ (List.mem_append_left _ h))))))
theorem lw_m7 : ∀ w ∈ tables_1_7, w ∈ lw_tbl := fun w h => show w ∈ k2_sels lw_privs ++ tables_1 from List.mem_append_right (k2_sels lw_privs) (show w ∈ tables_1 from List.mem_append_right _ (List.mem_append_right _ (List.mem_append_right _ (List.mem_append_right _ (List.mem_append_right _ (List.mem_append_right _ h))))))
theorem qs0 : (Cond.selects "java/lang/Throwable" ⟨"java/lang/Throwable", "fillInStackTrace", "(I)Ljava/lang/Throwable;"⟩ ⟨"java/lang/Throwable", "fillInStackTrace", "(I)Ljava/lang/Throwable;"⟩) ∈ lw_all := lw_g (lw_at lw_ms 0 rfl) rfl
theorem qs1 : (Cond.selects "LeftGloves" ⟨"LeftGloves", "made", "(II)LLeftGloves$Glove;"⟩ ⟨"LeftGloves", "made", "(II)LLeftGloves$Glove;"⟩) ∈ lw_all := lw_g (lw_at lw_ms 1 rfl) rfl
theorem qs2 : (Cond.selects "LeftGloves" ⟨"LeftGloves", "finding", "(I)I"⟩ ⟨"LeftGloves", "finding", "(I)I"⟩) ∈ lw_all := lw_g (lw_at lw_ms 2 rfl) rfl
theorem qs3 : (Cond.selects "LeftGloves" ⟨"LeftGloves", "hushedIn", "(I)I"⟩ ⟨"LeftGloves", "hushedIn", "(I)I"⟩) ∈ lw_all := lw_g (lw_at lw_ms 3 rfl) rfl
theorem qs4 : (Cond.selects "LeftGloves" ⟨"LeftGloves", "gloveOf", "(I)LLeftGloves$Glove;"⟩ ⟨"LeftGloves", "gloveOf", "(I)LLeftGloves$Glove;"⟩) ∈ lw_all := lw_g (lw_at lw_ms 4 rfl) rfl
theorem qs5 : (Cond.selects "LeftGloves" ⟨"LeftGloves", "isGlove", "(I)Z"⟩ ⟨"LeftGloves", "isGlove", "(I)Z"⟩) ∈ lw_all := lw_g (lw_at lw_ms 5 rfl) rfl
theorem qs6 : (Cond.selects "LeftGloves" ⟨"LeftGloves", "drawnOn", "(I)I"⟩ ⟨"LeftGloves", "drawnOn", "(I)I"⟩) ∈ lw_all := lw_g (lw_at lw_ms 6 rfl) rfl
theorem qs7 : (Cond.selects "LeftGloves" ⟨"LeftGloves", "goesOn", "(I)I"⟩ ⟨"LeftGloves", "goesOn", "(I)I"⟩) ∈ lw_all := lw_g (lw_at lw_ms 7 rfl) rfl
theorem qs8 : (Cond.selects "LeftGloves" ⟨"LeftGloves", "passes", "(I)V"⟩ ⟨"LeftGloves", "passes", "(I)V"⟩) ∈ lw_all := lw_g (lw_at lw_ms 8 rfl) rfl
theorem qs9 : (Cond.selects "LeftGloves" ⟨"LeftGloves", "passes", "()V"⟩ ⟨"LeftGloves", "passes", "()V"⟩) ∈ lw_all := lw_g (lw_at lw_ms 9 rfl) rfl
theorem qs10 : (Cond.selects "LeftGloves" ⟨"LeftGloves", "hearers", "(I)I"⟩ ⟨"LeftGloves", "hearers", "(I)I"⟩) ∈ lw_all := lw_g (lw_at lw_ms 10 rfl) rfl
theorem qs11 : (Cond.selects "LeftGloves" ⟨"LeftGloves", "toldBehind", "(III)I"⟩ ⟨"LeftGloves", "toldBehind", "(III)I"⟩) ∈ lw_all := lw_g (lw_at lw_ms 11 rfl) rfl
theorem qs12 : (Cond.selects "LeftGloves" ⟨"LeftGloves", "heardBehind", "(II)I"⟩ ⟨"LeftGloves", "heardBehind", "(II)I"⟩) ∈ lw_all := lw_g (lw_at lw_ms 12 rfl) rfl
theorem qs13 : (Cond.selects "LeftGloves" ⟨"LeftGloves", "orNone", "(I)I"⟩ ⟨"LeftGloves", "orNone", "(I)I"⟩) ∈ lw_all := lw_g (lw_at lw_ms 13 rfl) rfl
theorem qs14 : (Cond.selects "LeftGloves" ⟨"LeftGloves", "wiseBehind", "(II)I"⟩ ⟨"LeftGloves", "wiseBehind", "(II)I"⟩) ∈ lw_all := lw_g (lw_at lw_ms 14 rfl) rfl
theorem qs15 : (Cond.selects "LeftGloves" ⟨"LeftGloves", "outBehind", "(I)I"⟩ ⟨"LeftGloves", "outBehind", "(I)I"⟩) ∈ lw_all := lw_g (lw_at lw_ms 15 rfl) rfl
theorem qs16 : (Cond.selects "LeftGloves" ⟨"LeftGloves", "areOne", "(II)Z"⟩ ⟨"LeftGloves", "areOne", "(II)Z"⟩) ∈ lw_all := lw_g (lw_at lw_ms 16 rfl) rfl
theorem qs17 : (Cond.selects "LeftGloves" ⟨"LeftGloves", "mostBy", "(IIII)I"⟩ ⟨"LeftGloves", "mostBy", "(IIII)I"⟩) ∈ lw_all := lw_g (lw_at lw_ms 17 rfl) rfl
theorem qs18 : (Cond.selects "LeftGloves" ⟨"LeftGloves", "leastOpen", "(III)I"⟩ ⟨"LeftGloves", "leastOpen", "(III)I"⟩) ∈ lw_all := lw_g (lw_at lw_ms 18 rfl) rfl
theorem qs19 : (Cond.selects "LeftGloves" ⟨"LeftGloves", "greatestUnheard", "(I)I"⟩ ⟨"LeftGloves", "greatestUnheard", "(I)I"⟩) ∈ lw_all := lw_g (lw_at lw_ms 19 rfl) rfl
theorem qs20 : (Cond.selects "LeftGloves" ⟨"LeftGloves", "fewestKnowing", "(I)I"⟩ ⟨"LeftGloves", "fewestKnowing", "(I)I"⟩) ∈ lw_all := lw_g (lw_at lw_ms 20 rfl) rfl
theorem qs21 : (Cond.selects "LeftGloves" ⟨"LeftGloves", "fewestAway", "(III)I"⟩ ⟨"LeftGloves", "fewestAway", "(III)I"⟩) ∈ lw_all := lw_g (lw_at lw_ms 21 rfl) rfl
theorem qs22 : (Cond.selects "LeftGloves" ⟨"LeftGloves", "doesKnowBehind", "(III)Z"⟩ ⟨"LeftGloves", "doesKnowBehind", "(III)Z"⟩) ∈ lw_all := lw_g (lw_at lw_ms 22 rfl) rfl
theorem qs23 : (Cond.selects "LeftGloves" ⟨"LeftGloves", "allThatFit", "(IIII)I"⟩ ⟨"LeftGloves", "allThatFit", "(IIII)I"⟩) ∈ lw_all := lw_g (lw_at lw_ms 23 rfl) rfl
theorem qs24 : (Cond.selects "LeftGloves" ⟨"LeftGloves", "rowAt", "(I)Ljava/lang/Object;"⟩ ⟨"LeftGloves", "rowAt", "(I)Ljava/lang/Object;"⟩) ∈ lw_all := lw_g (lw_at lw_ms 24 rfl) rfl
theorem qs25 : (Cond.selects "LeftGloves" ⟨"LeftGloves", "need", "(ZI)V"⟩ ⟨"LeftGloves", "need", "(ZI)V"⟩) ∈ lw_all := lw_g (lw_at lw_ms 25 rfl) rfl
theorem qs26 : (Cond.selects "LeftGloves" ⟨"LeftGloves", "refused", "(I)LLeftGloves$Refusal;"⟩ ⟨"LeftGloves", "refused", "(I)LLeftGloves$Refusal;"⟩) ∈ lw_all := lw_g (lw_at lw_ms 26 rfl) rfl
theorem qs27 : (Cond.selects "LeftGloves" ⟨"LeftGloves", "wasSo", "(Ljava/lang/Object;I)Z"⟩ ⟨"LeftGloves", "wasSo", "(Ljava/lang/Object;I)Z"⟩) ∈ lw_all := lw_g (lw_at lw_ms 27 rfl) rfl
theorem qs28 : (Cond.selects "LeftGloves" ⟨"LeftGloves", "talked", "(I)I"⟩ ⟨"LeftGloves", "talked", "(I)I"⟩) ∈ lw_all := lw_g (lw_at lw_ms 28 rfl) rfl
theorem qs29 : (Cond.selects "LeftGloves$Reader" ⟨"LeftGloves$Reader", "next", "()V"⟩ ⟨"LeftGloves$Reader", "next", "()V"⟩) ∈ lw_all := lw_g (lw_at lw_ms 29 rfl) rfl
theorem qs30 : (Cond.selects "LeftGloves$Reader" ⟨"LeftGloves$Reader", "byteAt", "(I)I"⟩ ⟨"LeftGloves$Reader", "byteAt", "(I)I"⟩) ∈ lw_all := lw_g (lw_at lw_ms 30 rfl) rfl
theorem qs31 : (Cond.selects "LeftGloves$Reader" ⟨"LeftGloves$Reader", "word", "()V"⟩ ⟨"LeftGloves$Reader", "word", "()V"⟩) ∈ lw_all := lw_g (lw_at lw_ms 31 rfl) rfl
theorem qs32 : (Cond.selects "LeftGloves$Reader" ⟨"LeftGloves$Reader", "isKey", "(II)Z"⟩ ⟨"LeftGloves$Reader", "isKey", "(II)Z"⟩) ∈ lw_all := lw_g (lw_at lw_ms 32 rfl) rfl
theorem qs33 : (Cond.selects "LeftGloves$Reader" ⟨"LeftGloves$Reader", "need", "(Z)V"⟩ ⟨"LeftGloves$Reader", "need", "(Z)V"⟩) ∈ lw_all := lw_g (lw_at lw_ms 33 rfl) rfl
theorem qs34 : (Cond.selects "LeftGloves$Reader" ⟨"LeftGloves$Reader", "digits", "()V"⟩ ⟨"LeftGloves$Reader", "digits", "()V"⟩) ∈ lw_all := lw_g (lw_at lw_ms 34 rfl) rfl
theorem qs35 : (Cond.selects "LeftGloves$Reader" ⟨"LeftGloves$Reader", "item", "()V"⟩ ⟨"LeftGloves$Reader", "item", "()V"⟩) ∈ lw_all := lw_g (lw_at lw_ms 35 rfl) rfl
theorem qs36 : (Cond.selects "LeftGloves$Reader" ⟨"LeftGloves$Reader", "said", "()V"⟩ ⟨"LeftGloves$Reader", "said", "()V"⟩) ∈ lw_all := lw_g (lw_at lw_ms 36 rfl) rfl
theorem qs37 : (Cond.selects "LeftGloves$Reader" ⟨"LeftGloves$Reader", "behind", "(II)I"⟩ ⟨"LeftGloves$Reader", "behind", "(II)I"⟩) ∈ lw_all := lw_g (lw_at lw_ms 37 rfl) rfl
theorem qs38 : (Cond.selects "LeftGloves$Reader" ⟨"LeftGloves$Reader", "number", "(II)I"⟩ ⟨"LeftGloves$Reader", "number", "(II)I"⟩) ∈ lw_all := lw_g (lw_at lw_ms 38 rfl) rfl
theorem qs39 : (Cond.selects "LeftGloves$Reader" ⟨"LeftGloves$Reader", "hand", "()V"⟩ ⟨"LeftGloves$Reader", "hand", "()V"⟩) ∈ lw_all := lw_g (lw_at lw_ms 39 rfl) rfl
theorem qs40 : (Cond.selects "LeftGloves$Reader" ⟨"LeftGloves$Reader", "glove", "(I)V"⟩ ⟨"LeftGloves$Reader", "glove", "(I)V"⟩) ∈ lw_all := lw_g (lw_at lw_ms 40 rfl) rfl
theorem qs41 : (Cond.selects "LeftGloves$Reader" ⟨"LeftGloves$Reader", "isWord", "(I)Z"⟩ ⟨"LeftGloves$Reader", "isWord", "(I)Z"⟩) ∈ lw_all := lw_g (lw_at lw_ms 41 rfl) rfl
theorem qs42 : (Cond.selects "LeftGloves$Reader" ⟨"LeftGloves$Reader", "perhaps", "(III)V"⟩ ⟨"LeftGloves$Reader", "perhaps", "(III)V"⟩) ∈ lw_all := lw_g (lw_at lw_ms 42 rfl) rfl
theorem qs43 : (Cond.selects "LeftGloves" ⟨"LeftGloves", "thingAt", "(I)Ljava/lang/Object;"⟩ ⟨"LeftGloves", "thingAt", "(I)Ljava/lang/Object;"⟩) ∈ lw_all := lw_g (lw_at lw_ms 43 rfl) rfl
theorem qs44 : (Cond.selects "LeftGloves" ⟨"LeftGloves", "loads", "(Ljava/lang/Object;)I"⟩ ⟨"LeftGloves", "loads", "(Ljava/lang/Object;)I"⟩) ∈ lw_all := lw_g (lw_at lw_ms 44 rfl) rfl
theorem qs45 : (Cond.selects "LeftGloves" ⟨"LeftGloves", "holding", "()I"⟩ ⟨"LeftGloves", "holding", "()I"⟩) ∈ lw_all := lw_g (lw_at lw_ms 45 rfl) rfl
theorem qs46 : (Cond.selects "LeftGlovesModel" ⟨"LeftGlovesModel", "becomes", "(II)I"⟩ ⟨"LeftGlovesModel", "becomes", "(II)I"⟩) ∈ lw_all := lw_g (lw_at lw_ms 46 rfl) rfl
theorem qs47 : (Cond.selects "LeftGlovesModel" ⟨"LeftGlovesModel", "finds", "(I)I"⟩ ⟨"LeftGlovesModel", "finds", "(I)I"⟩) ∈ lw_all := lw_g (lw_at lw_ms 47 rfl) rfl
theorem qs48 : (Cond.selects "LeftGlovesModel" ⟨"LeftGlovesModel", "isIn", "(II)Z"⟩ ⟨"LeftGlovesModel", "isIn", "(II)Z"⟩) ∈ lw_all := lw_g (lw_at lw_ms 48 rfl) rfl
theorem qs49 : (Cond.selects "LeftGlovesModel" ⟨"LeftGlovesModel", "its", "(II)I"⟩ ⟨"LeftGlovesModel", "its", "(II)I"⟩) ∈ lw_all := lw_g (lw_at lw_ms 49 rfl) rfl
theorem qs50 : (Cond.selects "LeftGlovesModel" ⟨"LeftGlovesModel", "hushIn", "(I)I"⟩ ⟨"LeftGlovesModel", "hushIn", "(I)I"⟩) ∈ lw_all := lw_g (lw_at lw_ms 50 rfl) rfl
theorem qs51 : (Cond.selects "LeftGlovesModel" ⟨"LeftGlovesModel", "hushes", "(I)I"⟩ ⟨"LeftGlovesModel", "hushes", "(I)I"⟩) ∈ lw_all := lw_g (lw_at lw_ms 51 rfl) rfl
theorem qs52 : (Cond.selects "LeftGlovesModel" ⟨"LeftGlovesModel", "known", "(II)I"⟩ ⟨"LeftGlovesModel", "known", "(II)I"⟩) ∈ lw_all := lw_g (lw_at lw_ms 52 rfl) rfl
theorem qs53 : (Cond.selects "LeftGlovesModel" ⟨"LeftGlovesModel", "comes", "(II)I"⟩ ⟨"LeftGlovesModel", "comes", "(II)I"⟩) ∈ lw_all := lw_g (lw_at lw_ms 53 rfl) rfl
theorem qs54 : (Cond.selects "LeftGlovesModel" ⟨"LeftGlovesModel", "sets", "(III)V"⟩ ⟨"LeftGlovesModel", "sets", "(III)V"⟩) ∈ lw_all := lw_g (lw_at lw_ms 54 rfl) rfl
theorem qs55 : (Cond.selects "LeftGlovesModel" ⟨"LeftGlovesModel", "isGlove", "(I)Z"⟩ ⟨"LeftGlovesModel", "isGlove", "(I)Z"⟩) ∈ lw_all := lw_g (lw_at lw_ms 55 rfl) rfl
theorem qs56 : (Cond.selects "LeftGlovesModel" ⟨"LeftGlovesModel", "needs", "(I)I"⟩ ⟨"LeftGlovesModel", "needs", "(I)I"⟩) ∈ lw_all := lw_g (lw_at lw_ms 56 rfl) rfl
theorem qs57 : (Cond.selects "LeftGlovesModel" ⟨"LeftGlovesModel", "hasOther", "(I)Z"⟩ ⟨"LeftGlovesModel", "hasOther", "(I)Z"⟩) ∈ lw_all := lw_g (lw_at lw_ms 57 rfl) rfl
theorem qs58 : (Cond.selects "LeftGlovesModel" ⟨"LeftGlovesModel", "stays", "(I)I"⟩ ⟨"LeftGlovesModel", "stays", "(I)I"⟩) ∈ lw_all := lw_g (lw_at lw_ms 58 rfl) rfl
theorem qs59 : (Cond.selects "LeftGlovesModel" ⟨"LeftGlovesModel", "keeps", "(I)I"⟩ ⟨"LeftGlovesModel", "keeps", "(I)I"⟩) ∈ lw_all := lw_g (lw_at lw_ms 59 rfl) rfl
theorem qs60 : (Cond.selects "LeftGlovesModel" ⟨"LeftGlovesModel", "drawnOn", "(I)V"⟩ ⟨"LeftGlovesModel", "drawnOn", "(I)V"⟩) ∈ lw_all := lw_g (lw_at lw_ms 60 rfl) rfl
theorem qs61 : (Cond.selects "LeftGlovesModel" ⟨"LeftGlovesModel", "daysGo", "(I)V"⟩ ⟨"LeftGlovesModel", "daysGo", "(I)V"⟩) ∈ lw_all := lw_g (lw_at lw_ms 61 rfl) rfl
theorem qs62 : (Cond.selects "LeftGlovesModel" ⟨"LeftGlovesModel", "dayGoes", "()V"⟩ ⟨"LeftGlovesModel", "dayGoes", "()V"⟩) ∈ lw_all := lw_g (lw_at lw_ms 62 rfl) rfl
theorem qs63 : (Cond.selects "LeftGlovesModel" ⟨"LeftGlovesModel", "todays", "()I"⟩ ⟨"LeftGlovesModel", "todays", "()I"⟩) ∈ lw_all := lw_g (lw_at lw_ms 63 rfl) rfl
theorem qs64 : (Cond.selects "LeftGlovesModel" ⟨"LeftGlovesModel", "hearers", "(I)I"⟩ ⟨"LeftGlovesModel", "hearers", "(I)I"⟩) ∈ lw_all := lw_g (lw_at lw_ms 64 rfl) rfl
theorem qs65 : (Cond.selects "LeftGlovesModel" ⟨"LeftGlovesModel", "learns", "(II)V"⟩ ⟨"LeftGlovesModel", "learns", "(II)V"⟩) ∈ lw_all := lw_g (lw_at lw_ms 65 rfl) rfl
theorem qs66 : (Cond.selects "LeftGlovesModel" ⟨"LeftGlovesModel", "allKnow", "()I"⟩ ⟨"LeftGlovesModel", "allKnow", "()I"⟩) ∈ lw_all := lw_g (lw_at lw_ms 66 rfl) rfl
theorem qs67 : (Cond.selects "LeftGlovesModel" ⟨"LeftGlovesModel", "allHands", "()I"⟩ ⟨"LeftGlovesModel", "allHands", "()I"⟩) ∈ lw_all := lw_g (lw_at lw_ms 67 rfl) rfl
theorem qs68 : (Cond.selects "LeftGlovesModel" ⟨"LeftGlovesModel", "allDrawn", "()I"⟩ ⟨"LeftGlovesModel", "allDrawn", "()I"⟩) ∈ lw_all := lw_g (lw_at lw_ms 68 rfl) rfl
theorem qs69 : (Cond.selects "LeftGlovesModel" ⟨"LeftGlovesModel", "wisest", "()I"⟩ ⟨"LeftGlovesModel", "wisest", "()I"⟩) ∈ lw_all := lw_g (lw_at lw_ms 69 rfl) rfl
theorem qs70 : (Cond.selects "LeftGlovesModel" ⟨"LeftGlovesModel", "behind", "(II)I"⟩ ⟨"LeftGlovesModel", "behind", "(II)I"⟩) ∈ lw_all := lw_g (lw_at lw_ms 70 rfl) rfl
theorem qs71 : (Cond.selects "LeftGlovesModel" ⟨"LeftGlovesModel", "areKnown", "(I)Z"⟩ ⟨"LeftGlovesModel", "areKnown", "(I)Z"⟩) ∈ lw_all := lw_g (lw_at lw_ms 71 rfl) rfl
theorem qs72 : (Cond.selects "LeftGlovesModel" ⟨"LeftGlovesModel", "bestOf", "(IIII)I"⟩ ⟨"LeftGlovesModel", "bestOf", "(IIII)I"⟩) ∈ lw_all := lw_g (lw_at lw_ms 72 rfl) rfl
theorem qs73 : (Cond.selects "LeftGlovesModel" ⟨"LeftGlovesModel", "whyNot", "(II)I"⟩ ⟨"LeftGlovesModel", "whyNot", "(II)I"⟩) ∈ lw_all := lw_g (lw_at lw_ms 73 rfl) rfl
theorem qs74 : (Cond.selects "LeftGlovesModel" ⟨"LeftGlovesModel", "whyNone", "(I)I"⟩ ⟨"LeftGlovesModel", "whyNone", "(I)I"⟩) ∈ lw_all := lw_g (lw_at lw_ms 74 rfl) rfl
theorem qs75 : (Cond.selects "LeftGlovesModel" ⟨"LeftGlovesModel", "fitting", "(IIII)I"⟩ ⟨"LeftGlovesModel", "fitting", "(IIII)I"⟩) ∈ lw_all := lw_g (lw_at lw_ms 75 rfl) rfl
theorem qs76 : (Cond.selects "LeftGlovesModel" ⟨"LeftGlovesModel", "drawOne", "()I"⟩ ⟨"LeftGlovesModel", "drawOne", "()I"⟩) ∈ lw_all := lw_g (lw_at lw_ms 76 rfl) rfl
theorem qs77 : (Cond.selects "LeftGlovesModel" ⟨"LeftGlovesModel", "items", "()I"⟩ ⟨"LeftGlovesModel", "items", "()I"⟩) ∈ lw_all := lw_g (lw_at lw_ms 77 rfl) rfl
theorem qs78 : (Cond.selects "LeftGlovesModel" ⟨"LeftGlovesModel", "next", "()V"⟩ ⟨"LeftGlovesModel", "next", "()V"⟩) ∈ lw_all := lw_g (lw_at lw_ms 78 rfl) rfl
theorem qs79 : (Cond.selects "LeftGlovesModel" ⟨"LeftGlovesModel", "byteAt", "(I)I"⟩ ⟨"LeftGlovesModel", "byteAt", "(I)I"⟩) ∈ lw_all := lw_g (lw_at lw_ms 79 rfl) rfl
theorem qs80 : (Cond.selects "LeftGlovesModel" ⟨"LeftGlovesModel", "item", "()V"⟩ ⟨"LeftGlovesModel", "item", "()V"⟩) ∈ lw_all := lw_g (lw_at lw_ms 80 rfl) rfl
theorem qs81 : (Cond.selects "LeftGlovesModel" ⟨"LeftGlovesModel", "kindHere", "()I"⟩ ⟨"LeftGlovesModel", "kindHere", "()I"⟩) ∈ lw_all := lw_g (lw_at lw_ms 81 rfl) rfl
theorem qs82 : (Cond.selects "LeftGlovesModel" ⟨"LeftGlovesModel", "isWord", "(J)Z"⟩ ⟨"LeftGlovesModel", "isWord", "(J)Z"⟩) ∈ lw_all := lw_g (lw_at lw_ms 82 rfl) rfl
theorem qs83 : (Cond.selects "LeftGlovesModel" ⟨"LeftGlovesModel", "gloveHere", "(I)V"⟩ ⟨"LeftGlovesModel", "gloveHere", "(I)V"⟩) ∈ lw_all := lw_g (lw_at lw_ms 83 rfl) rfl
theorem qs84 : (Cond.selects "LeftGlovesModel" ⟨"LeftGlovesModel", "wrongHere", "()V"⟩ ⟨"LeftGlovesModel", "wrongHere", "()V"⟩) ∈ lw_all := lw_g (lw_at lw_ms 84 rfl) rfl
theorem qs85 : (Cond.selects "LeftGlovesModel" ⟨"LeftGlovesModel", "perhaps", "(JII)V"⟩ ⟨"LeftGlovesModel", "perhaps", "(JII)V"⟩) ∈ lw_all := lw_g (lw_at lw_ms 85 rfl) rfl
theorem qs86 : (Cond.selects "LeftGlovesModel" ⟨"LeftGlovesModel", "numberHere", "(I)I"⟩ ⟨"LeftGlovesModel", "numberHere", "(I)I"⟩) ∈ lw_all := lw_g (lw_at lw_ms 86 rfl) rfl
theorem qs87 : (Cond.selects "LeftGlovesModel" ⟨"LeftGlovesModel", "saidHere", "()V"⟩ ⟨"LeftGlovesModel", "saidHere", "()V"⟩) ∈ lw_all := lw_g (lw_at lw_ms 87 rfl) rfl
theorem qs88 : (Cond.selects "LeftGlovesModel" ⟨"LeftGlovesModel", "handHere", "()V"⟩ ⟨"LeftGlovesModel", "handHere", "()V"⟩) ∈ lw_all := lw_g (lw_at lw_ms 88 rfl) rfl
theorem qs89 : (Cond.selects "LeftGlovesModel" ⟨"LeftGlovesModel", "holding", "()I"⟩ ⟨"LeftGlovesModel", "holding", "()I"⟩) ∈ lw_all := lw_g (lw_at lw_ms 89 rfl) rfl
