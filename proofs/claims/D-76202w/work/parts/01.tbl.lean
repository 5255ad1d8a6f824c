-- ===== PART A: goes FIRST, ahead of the names: the tables' words, and 'selects' of the private methods out of them =====
/-- a private method of a class that the tables say can be made, by its rows of tables_1 -/
def lw_okq (q : MethodName × Nat) : Prop := (q.1.cls ≠ "java/lang/invoke/MethodHandle" ∧ q.1.cls ≠ "java/lang/invoke/VarHandle") ∧ Cond.instantiable q.1.cls q.2 ∈ tables_1 ∧ Cond.privateMethod q.1 ∈ tables_1 ∧ Cond.instanceMethod q.1 ∈ tables_1
set_option maxRecDepth 100000
theorem lw_t1 {w : Cond} (h : w ∈ tables_1_1) : w ∈ tables_1 := List.mem_append_left _ h
theorem lw_t2 {w : Cond} (h : w ∈ tables_1_2) : w ∈ tables_1 := List.mem_append_right _ (List.mem_append_left _ h)
theorem lw_t3 {w : Cond} (h : w ∈ tables_1_3) : w ∈ tables_1 := List.mem_append_right _ (List.mem_append_right _ (List.mem_append_left _ h))
theorem lw_t4 {w : Cond} (h : w ∈ tables_1_4) : w ∈ tables_1 := List.mem_append_right _ (List.mem_append_right _ (List.mem_append_right _ (List.mem_append_left _ h)))
theorem lw_t5 {w : Cond} (h : w ∈ tables_1_5) : w ∈ tables_1 := List.mem_append_right _ (List.mem_append_right _ (List.mem_append_right _ (List.mem_append_right _ (List.mem_append_left _ h))))
theorem lw_t6 {w : Cond} (h : w ∈ tables_1_6) : w ∈ tables_1 := List.mem_append_right _ (List.mem_append_right _ (List.mem_append_right _ (List.mem_append_right _ (List.mem_append_right _ (List.mem_append_left _ h)))))
theorem lw_t7 {w : Cond} (h : w ∈ tables_1_7) : w ∈ tables_1 := List.mem_append_right _ (List.mem_append_right _ (List.mem_append_right _ (List.mem_append_right _ (List.mem_append_right _ (List.mem_append_right _ h)))))
theorem lw_p0 : lw_okq (⟨"java/lang/Throwable", "fillInStackTrace", "(I)Ljava/lang/Throwable;"⟩, 6) := ⟨⟨by decide +kernel, by decide +kernel⟩, lw_t1 (List.mem_of_getElem? (i := 71) rfl), lw_t1 (List.mem_of_getElem? (i := 69) rfl), lw_t1 (List.mem_of_getElem? (i := 70) rfl)⟩
theorem lw_p1 : lw_okq (⟨"ThunderCasks", "made", "(II)LThunderCasks$Cask;"⟩, 12) := ⟨⟨by decide +kernel, by decide +kernel⟩, lw_t1 (List.mem_of_getElem? (i := 26) rfl), lw_t1 (List.mem_of_getElem? (i := 214) rfl), lw_t1 (List.mem_of_getElem? (i := 215) rfl)⟩
theorem lw_p2 : lw_okq (⟨"ThunderCasks", "finding", "(I)I"⟩, 12) := ⟨⟨by decide +kernel, by decide +kernel⟩, lw_t1 (List.mem_of_getElem? (i := 26) rfl), lw_t2 (List.mem_of_getElem? (i := 117) rfl), lw_t2 (List.mem_of_getElem? (i := 118) rfl)⟩
theorem lw_p3 : lw_okq (⟨"ThunderCasks", "isCask", "(I)Z"⟩, 12) := ⟨⟨by decide +kernel, by decide +kernel⟩, lw_t1 (List.mem_of_getElem? (i := 26) rfl), lw_t2 (List.mem_of_getElem? (i := 156) rfl), lw_t2 (List.mem_of_getElem? (i := 157) rfl)⟩
theorem lw_p4 : lw_okq (⟨"ThunderCasks", "caskOf", "(I)LThunderCasks$Cask;"⟩, 12) := ⟨⟨by decide +kernel, by decide +kernel⟩, lw_t1 (List.mem_of_getElem? (i := 26) rfl), lw_t2 (List.mem_of_getElem? (i := 160) rfl), lw_t2 (List.mem_of_getElem? (i := 161) rfl)⟩
theorem lw_p5 : lw_okq (⟨"ThunderCasks", "loudOf", "(I)I"⟩, 12) := ⟨⟨by decide +kernel, by decide +kernel⟩, lw_t1 (List.mem_of_getElem? (i := 26) rfl), lw_t3 (List.mem_of_getElem? (i := 72) rfl), lw_t3 (List.mem_of_getElem? (i := 73) rfl)⟩
theorem lw_p6 : lw_okq (⟨"ThunderCasks", "goesOn", "(I)I"⟩, 12) := ⟨⟨by decide +kernel, by decide +kernel⟩, lw_t1 (List.mem_of_getElem? (i := 26) rfl), lw_t3 (List.mem_of_getElem? (i := 121) rfl), lw_t3 (List.mem_of_getElem? (i := 122) rfl)⟩
theorem lw_p7 : lw_okq (⟨"ThunderCasks", "passes", "(I)V"⟩, 12) := ⟨⟨by decide +kernel, by decide +kernel⟩, lw_t1 (List.mem_of_getElem? (i := 26) rfl), lw_t3 (List.mem_of_getElem? (i := 125) rfl), lw_t3 (List.mem_of_getElem? (i := 126) rfl)⟩
theorem lw_p8 : lw_okq (⟨"ThunderCasks", "passes", "()V"⟩, 12) := ⟨⟨by decide +kernel, by decide +kernel⟩, lw_t1 (List.mem_of_getElem? (i := 26) rfl), lw_t3 (List.mem_of_getElem? (i := 129) rfl), lw_t3 (List.mem_of_getElem? (i := 130) rfl)⟩
theorem lw_p9 : lw_okq (⟨"ThunderCasks$World", "areAlike", "(II)Z"⟩, 8) := ⟨⟨by decide +kernel, by decide +kernel⟩, lw_t1 (List.mem_of_getElem? (i := 123) rfl), lw_t3 (List.mem_of_getElem? (i := 154) rfl), lw_t3 (List.mem_of_getElem? (i := 155) rfl)⟩
theorem lw_p10 : lw_okq (⟨"ThunderCasks", "nextToBurst", "()I"⟩, 12) := ⟨⟨by decide +kernel, by decide +kernel⟩, lw_t1 (List.mem_of_getElem? (i := 26) rfl), lw_t3 (List.mem_of_getElem? (i := 158) rfl), lw_t3 (List.mem_of_getElem? (i := 159) rfl)⟩
theorem lw_p11 : lw_okq (⟨"ThunderCasks", "isTooLoud", "(I)Z"⟩, 12) := ⟨⟨by decide +kernel, by decide +kernel⟩, lw_t1 (List.mem_of_getElem? (i := 26) rfl), lw_t3 (List.mem_of_getElem? (i := 162) rfl), lw_t3 (List.mem_of_getElem? (i := 163) rfl)⟩
theorem lw_p12 : lw_okq (⟨"ThunderCasks", "blendOf", "(I)I"⟩, 12) := ⟨⟨by decide +kernel, by decide +kernel⟩, lw_t1 (List.mem_of_getElem? (i := 26) rfl), lw_t3 (List.mem_of_getElem? (i := 204) rfl), lw_t3 (List.mem_of_getElem? (i := 205) rfl)⟩
theorem lw_p13 : lw_okq (⟨"ThunderCasks", "tooLoud", "()I"⟩, 12) := ⟨⟨by decide +kernel, by decide +kernel⟩, lw_t1 (List.mem_of_getElem? (i := 26) rfl), lw_t3 (List.mem_of_getElem? (i := 211) rfl), lw_t3 (List.mem_of_getElem? (i := 212) rfl)⟩
theorem lw_p14 : lw_okq (⟨"ThunderCasks", "loudest", "()I"⟩, 12) := ⟨⟨by decide +kernel, by decide +kernel⟩, lw_t1 (List.mem_of_getElem? (i := 26) rfl), lw_t3 (List.mem_of_getElem? (i := 215) rfl), lw_t3 (List.mem_of_getElem? (i := 216) rfl)⟩
theorem lw_p15 : lw_okq (⟨"ThunderCasks", "toldBehind", "(III)I"⟩, 12) := ⟨⟨by decide +kernel, by decide +kernel⟩, lw_t1 (List.mem_of_getElem? (i := 26) rfl), lw_t3 (List.mem_of_getElem? (i := 227) rfl), lw_t3 (List.mem_of_getElem? (i := 228) rfl)⟩
def lw_privs_1 : List (MethodName × Nat) := [(⟨"java/lang/Throwable", "fillInStackTrace", "(I)Ljava/lang/Throwable;"⟩, 6), (⟨"ThunderCasks", "made", "(II)LThunderCasks$Cask;"⟩, 12), (⟨"ThunderCasks", "finding", "(I)I"⟩, 12), (⟨"ThunderCasks", "isCask", "(I)Z"⟩, 12), (⟨"ThunderCasks", "caskOf", "(I)LThunderCasks$Cask;"⟩, 12), (⟨"ThunderCasks", "loudOf", "(I)I"⟩, 12), (⟨"ThunderCasks", "goesOn", "(I)I"⟩, 12), (⟨"ThunderCasks", "passes", "(I)V"⟩, 12), (⟨"ThunderCasks", "passes", "()V"⟩, 12), (⟨"ThunderCasks$World", "areAlike", "(II)Z"⟩, 8), (⟨"ThunderCasks", "nextToBurst", "()I"⟩, 12), (⟨"ThunderCasks", "isTooLoud", "(I)Z"⟩, 12), (⟨"ThunderCasks", "blendOf", "(I)I"⟩, 12), (⟨"ThunderCasks", "tooLoud", "()I"⟩, 12), (⟨"ThunderCasks", "loudest", "()I"⟩, 12), (⟨"ThunderCasks", "toldBehind", "(III)I"⟩, 12)]
theorem lw_r1 : ∀ q ∈ lw_privs_1, lw_okq q := List.forall_mem_cons.mpr ⟨lw_p0, List.forall_mem_cons.mpr ⟨lw_p1, List.forall_mem_cons.mpr ⟨lw_p2, List.forall_mem_cons.mpr ⟨lw_p3, List.forall_mem_cons.mpr ⟨lw_p4, List.forall_mem_cons.mpr ⟨lw_p5, List.forall_mem_cons.mpr ⟨lw_p6, List.forall_mem_cons.mpr ⟨lw_p7, List.forall_mem_cons.mpr ⟨lw_p8, List.forall_mem_cons.mpr ⟨lw_p9, List.forall_mem_cons.mpr ⟨lw_p10, List.forall_mem_cons.mpr ⟨lw_p11, List.forall_mem_cons.mpr ⟨lw_p12, List.forall_mem_cons.mpr ⟨lw_p13, List.forall_mem_cons.mpr ⟨lw_p14, List.forall_mem_cons.mpr ⟨lw_p15, fun _ h => absurd h List.not_mem_nil⟩⟩⟩⟩⟩⟩⟩⟩⟩⟩⟩⟩⟩⟩⟩⟩
theorem lw_p16 : lw_okq (⟨"ThunderCasks", "toldOf", "(II)I"⟩, 12) := ⟨⟨by decide +kernel, by decide +kernel⟩, lw_t1 (List.mem_of_getElem? (i := 26) rfl), lw_t4 (List.mem_of_getElem? (i := 1) rfl), lw_t4 (List.mem_of_getElem? (i := 2) rfl)⟩
theorem lw_p17 : lw_okq (⟨"ThunderCasks", "clapsBehind", "(I)I"⟩, 12) := ⟨⟨by decide +kernel, by decide +kernel⟩, lw_t1 (List.mem_of_getElem? (i := 26) rfl), lw_t4 (List.mem_of_getElem? (i := 9) rfl), lw_t4 (List.mem_of_getElem? (i := 10) rfl)⟩
theorem lw_p18 : lw_okq (⟨"ThunderCasks", "burstBehind", "(I)I"⟩, 12) := ⟨⟨by decide +kernel, by decide +kernel⟩, lw_t1 (List.mem_of_getElem? (i := 26) rfl), lw_t4 (List.mem_of_getElem? (i := 17) rfl), lw_t4 (List.mem_of_getElem? (i := 18) rfl)⟩
theorem lw_p19 : lw_okq (⟨"ThunderCasks", "orNone", "(I)I"⟩, 12) := ⟨⟨by decide +kernel, by decide +kernel⟩, lw_t1 (List.mem_of_getElem? (i := 26) rfl), lw_t4 (List.mem_of_getElem? (i := 21) rfl), lw_t4 (List.mem_of_getElem? (i := 22) rfl)⟩
theorem lw_p20 : lw_okq (⟨"ThunderCasks", "loudBehind", "(II)I"⟩, 12) := ⟨⟨by decide +kernel, by decide +kernel⟩, lw_t1 (List.mem_of_getElem? (i := 26) rfl), lw_t4 (List.mem_of_getElem? (i := 29) rfl), lw_t4 (List.mem_of_getElem? (i := 30) rfl)⟩
theorem lw_p21 : lw_okq (⟨"ThunderCasks", "burstOnes", "(I)I"⟩, 12) := ⟨⟨by decide +kernel, by decide +kernel⟩, lw_t1 (List.mem_of_getElem? (i := 26) rfl), lw_t4 (List.mem_of_getElem? (i := 37) rfl), lw_t4 (List.mem_of_getElem? (i := 38) rfl)⟩
theorem lw_p22 : lw_okq (⟨"ThunderCasks", "areOne", "(II)Z"⟩, 12) := ⟨⟨by decide +kernel, by decide +kernel⟩, lw_t1 (List.mem_of_getElem? (i := 26) rfl), lw_t4 (List.mem_of_getElem? (i := 45) rfl), lw_t4 (List.mem_of_getElem? (i := 46) rfl)⟩
theorem lw_p23 : lw_okq (⟨"ThunderCasks", "mostBy", "(IIII)I"⟩, 12) := ⟨⟨by decide +kernel, by decide +kernel⟩, lw_t1 (List.mem_of_getElem? (i := 26) rfl), lw_t4 (List.mem_of_getElem? (i := 49) rfl), lw_t4 (List.mem_of_getElem? (i := 50) rfl)⟩
theorem lw_p24 : lw_okq (⟨"ThunderCasks", "leastHoops", "(II)I"⟩, 12) := ⟨⟨by decide +kernel, by decide +kernel⟩, lw_t1 (List.mem_of_getElem? (i := 26) rfl), lw_t4 (List.mem_of_getElem? (i := 66) rfl), lw_t4 (List.mem_of_getElem? (i := 67) rfl)⟩
theorem lw_p25 : lw_okq (⟨"ThunderCasks", "greatestFrost", "(II)I"⟩, 12) := ⟨⟨by decide +kernel, by decide +kernel⟩, lw_t1 (List.mem_of_getElem? (i := 26) rfl), lw_t4 (List.mem_of_getElem? (i := 74) rfl), lw_t4 (List.mem_of_getElem? (i := 75) rfl)⟩
theorem lw_p26 : lw_okq (⟨"ThunderCasks", "fewestEmptied", "(I)I"⟩, 12) := ⟨⟨by decide +kernel, by decide +kernel⟩, lw_t1 (List.mem_of_getElem? (i := 26) rfl), lw_t4 (List.mem_of_getElem? (i := 82) rfl), lw_t4 (List.mem_of_getElem? (i := 83) rfl)⟩
theorem lw_p27 : lw_okq (⟨"ThunderCasks", "clapsWithout", "(II)I"⟩, 12) := ⟨⟨by decide +kernel, by decide +kernel⟩, lw_t1 (List.mem_of_getElem? (i := 26) rfl), lw_t4 (List.mem_of_getElem? (i := 87) rfl), lw_t4 (List.mem_of_getElem? (i := 88) rfl)⟩
theorem lw_p28 : lw_okq (⟨"ThunderCasks", "fewestBlended", "(I)I"⟩, 12) := ⟨⟨by decide +kernel, by decide +kernel⟩, lw_t1 (List.mem_of_getElem? (i := 26) rfl), lw_t4 (List.mem_of_getElem? (i := 102) rfl), lw_t4 (List.mem_of_getElem? (i := 103) rfl)⟩
theorem lw_p29 : lw_okq (⟨"ThunderCasks", "manyBlends", "(II)I"⟩, 12) := ⟨⟨by decide +kernel, by decide +kernel⟩, lw_t1 (List.mem_of_getElem? (i := 26) rfl), lw_t4 (List.mem_of_getElem? (i := 110) rfl), lw_t4 (List.mem_of_getElem? (i := 111) rfl)⟩
theorem lw_p30 : lw_okq (⟨"ThunderCasks", "rowFor", "(II)Ljava/lang/Object;"⟩, 12) := ⟨⟨by decide +kernel, by decide +kernel⟩, lw_t1 (List.mem_of_getElem? (i := 26) rfl), lw_t4 (List.mem_of_getElem? (i := 118) rfl), lw_t4 (List.mem_of_getElem? (i := 119) rfl)⟩
theorem lw_p31 : lw_okq (⟨"ThunderCasks", "rowAt", "(I)Ljava/lang/Object;"⟩, 12) := ⟨⟨by decide +kernel, by decide +kernel⟩, lw_t1 (List.mem_of_getElem? (i := 26) rfl), lw_t4 (List.mem_of_getElem? (i := 122) rfl), lw_t4 (List.mem_of_getElem? (i := 123) rfl)⟩
def lw_privs_2 : List (MethodName × Nat) := [(⟨"ThunderCasks", "toldOf", "(II)I"⟩, 12), (⟨"ThunderCasks", "clapsBehind", "(I)I"⟩, 12), (⟨"ThunderCasks", "burstBehind", "(I)I"⟩, 12), (⟨"ThunderCasks", "orNone", "(I)I"⟩, 12), (⟨"ThunderCasks", "loudBehind", "(II)I"⟩, 12), (⟨"ThunderCasks", "burstOnes", "(I)I"⟩, 12), (⟨"ThunderCasks", "areOne", "(II)Z"⟩, 12), (⟨"ThunderCasks", "mostBy", "(IIII)I"⟩, 12), (⟨"ThunderCasks", "leastHoops", "(II)I"⟩, 12), (⟨"ThunderCasks", "greatestFrost", "(II)I"⟩, 12), (⟨"ThunderCasks", "fewestEmptied", "(I)I"⟩, 12), (⟨"ThunderCasks", "clapsWithout", "(II)I"⟩, 12), (⟨"ThunderCasks", "fewestBlended", "(I)I"⟩, 12), (⟨"ThunderCasks", "manyBlends", "(II)I"⟩, 12), (⟨"ThunderCasks", "rowFor", "(II)Ljava/lang/Object;"⟩, 12), (⟨"ThunderCasks", "rowAt", "(I)Ljava/lang/Object;"⟩, 12)]
theorem lw_r2 : ∀ q ∈ lw_privs_2, lw_okq q := List.forall_mem_cons.mpr ⟨lw_p16, List.forall_mem_cons.mpr ⟨lw_p17, List.forall_mem_cons.mpr ⟨lw_p18, List.forall_mem_cons.mpr ⟨lw_p19, List.forall_mem_cons.mpr ⟨lw_p20, List.forall_mem_cons.mpr ⟨lw_p21, List.forall_mem_cons.mpr ⟨lw_p22, List.forall_mem_cons.mpr ⟨lw_p23, List.forall_mem_cons.mpr ⟨lw_p24, List.forall_mem_cons.mpr ⟨lw_p25, List.forall_mem_cons.mpr ⟨lw_p26, List.forall_mem_cons.mpr ⟨lw_p27, List.forall_mem_cons.mpr ⟨lw_p28, List.forall_mem_cons.mpr ⟨lw_p29, List.forall_mem_cons.mpr ⟨lw_p30, List.forall_mem_cons.mpr ⟨lw_p31, fun _ h => absurd h List.not_mem_nil⟩⟩⟩⟩⟩⟩⟩⟩⟩⟩⟩⟩⟩⟩⟩⟩
theorem lw_p32 : lw_okq (⟨"ThunderCasks", "need", "(ZI)V"⟩, 12) := ⟨⟨by decide +kernel, by decide +kernel⟩, lw_t1 (List.mem_of_getElem? (i := 26) rfl), lw_t4 (List.mem_of_getElem? (i := 129) rfl), lw_t4 (List.mem_of_getElem? (i := 130) rfl)⟩
theorem lw_p33 : lw_okq (⟨"ThunderCasks", "refused", "(I)LThunderCasks$Refusal;"⟩, 12) := ⟨⟨by decide +kernel, by decide +kernel⟩, lw_t1 (List.mem_of_getElem? (i := 26) rfl), lw_t4 (List.mem_of_getElem? (i := 133) rfl), lw_t4 (List.mem_of_getElem? (i := 134) rfl)⟩
theorem lw_p34 : lw_okq (⟨"ThunderCasks", "manyFits", "(Ljava/lang/Object;I)I"⟩, 12) := ⟨⟨by decide +kernel, by decide +kernel⟩, lw_t1 (List.mem_of_getElem? (i := 26) rfl), lw_t4 (List.mem_of_getElem? (i := 137) rfl), lw_t4 (List.mem_of_getElem? (i := 138) rfl)⟩
theorem lw_p35 : lw_okq (⟨"ThunderCasks", "wasSo", "(Ljava/lang/Object;I)Z"⟩, 12) := ⟨⟨by decide +kernel, by decide +kernel⟩, lw_t1 (List.mem_of_getElem? (i := 26) rfl), lw_t4 (List.mem_of_getElem? (i := 141) rfl), lw_t4 (List.mem_of_getElem? (i := 142) rfl)⟩
theorem lw_p36 : lw_okq (⟨"ThunderCasks", "kindsThatFit", "(Ljava/lang/Object;I)I"⟩, 12) := ⟨⟨by decide +kernel, by decide +kernel⟩, lw_t1 (List.mem_of_getElem? (i := 26) rfl), lw_t4 (List.mem_of_getElem? (i := 162) rfl), lw_t4 (List.mem_of_getElem? (i := 163) rfl)⟩
theorem lw_p37 : lw_okq (⟨"ThunderCasks", "stormed", "(I)I"⟩, 12) := ⟨⟨by decide +kernel, by decide +kernel⟩, lw_t1 (List.mem_of_getElem? (i := 26) rfl), lw_t4 (List.mem_of_getElem? (i := 170) rfl), lw_t4 (List.mem_of_getElem? (i := 171) rfl)⟩
theorem lw_p38 : lw_okq (⟨"ThunderCasks$Reader", "next", "()V"⟩, 8) := ⟨⟨by decide +kernel, by decide +kernel⟩, lw_t1 (List.mem_of_getElem? (i := 102) rfl), lw_t4 (List.mem_of_getElem? (i := 207) rfl), lw_t4 (List.mem_of_getElem? (i := 208) rfl)⟩
theorem lw_p39 : lw_okq (⟨"ThunderCasks$Reader", "byteAt", "(I)I"⟩, 8) := ⟨⟨by decide +kernel, by decide +kernel⟩, lw_t1 (List.mem_of_getElem? (i := 102) rfl), lw_t4 (List.mem_of_getElem? (i := 211) rfl), lw_t4 (List.mem_of_getElem? (i := 212) rfl)⟩
theorem lw_p40 : lw_okq (⟨"ThunderCasks$Reader", "word", "()V"⟩, 8) := ⟨⟨by decide +kernel, by decide +kernel⟩, lw_t1 (List.mem_of_getElem? (i := 102) rfl), lw_t4 (List.mem_of_getElem? (i := 219) rfl), lw_t4 (List.mem_of_getElem? (i := 220) rfl)⟩
theorem lw_p41 : lw_okq (⟨"ThunderCasks$Reader", "isKey", "(II)Z"⟩, 8) := ⟨⟨by decide +kernel, by decide +kernel⟩, lw_t1 (List.mem_of_getElem? (i := 102) rfl), lw_t4 (List.mem_of_getElem? (i := 223) rfl), lw_t4 (List.mem_of_getElem? (i := 224) rfl)⟩
theorem lw_p42 : lw_okq (⟨"ThunderCasks$Reader", "need", "(Z)V"⟩, 8) := ⟨⟨by decide +kernel, by decide +kernel⟩, lw_t1 (List.mem_of_getElem? (i := 102) rfl), lw_t5 (List.mem_of_getElem? (i := 28) rfl), lw_t5 (List.mem_of_getElem? (i := 29) rfl)⟩
theorem lw_p43 : lw_okq (⟨"ThunderCasks$Reader", "digits", "()V"⟩, 8) := ⟨⟨by decide +kernel, by decide +kernel⟩, lw_t1 (List.mem_of_getElem? (i := 102) rfl), lw_t5 (List.mem_of_getElem? (i := 35) rfl), lw_t5 (List.mem_of_getElem? (i := 36) rfl)⟩
theorem lw_p44 : lw_okq (⟨"ThunderCasks$Reader", "item", "()V"⟩, 8) := ⟨⟨by decide +kernel, by decide +kernel⟩, lw_t1 (List.mem_of_getElem? (i := 102) rfl), lw_t5 (List.mem_of_getElem? (i := 39) rfl), lw_t5 (List.mem_of_getElem? (i := 40) rfl)⟩
theorem lw_p45 : lw_okq (⟨"ThunderCasks$Reader", "storm", "()V"⟩, 8) := ⟨⟨by decide +kernel, by decide +kernel⟩, lw_t1 (List.mem_of_getElem? (i := 102) rfl), lw_t5 (List.mem_of_getElem? (i := 43) rfl), lw_t5 (List.mem_of_getElem? (i := 44) rfl)⟩
theorem lw_p46 : lw_okq (⟨"ThunderCasks$Reader", "behind", "(II)I"⟩, 8) := ⟨⟨by decide +kernel, by decide +kernel⟩, lw_t1 (List.mem_of_getElem? (i := 102) rfl), lw_t5 (List.mem_of_getElem? (i := 47) rfl), lw_t5 (List.mem_of_getElem? (i := 48) rfl)⟩
theorem lw_p47 : lw_okq (⟨"ThunderCasks$Reader", "number", "(II)I"⟩, 8) := ⟨⟨by decide +kernel, by decide +kernel⟩, lw_t1 (List.mem_of_getElem? (i := 102) rfl), lw_t5 (List.mem_of_getElem? (i := 51) rfl), lw_t5 (List.mem_of_getElem? (i := 52) rfl)⟩
def lw_privs_3 : List (MethodName × Nat) := [(⟨"ThunderCasks", "need", "(ZI)V"⟩, 12), (⟨"ThunderCasks", "refused", "(I)LThunderCasks$Refusal;"⟩, 12), (⟨"ThunderCasks", "manyFits", "(Ljava/lang/Object;I)I"⟩, 12), (⟨"ThunderCasks", "wasSo", "(Ljava/lang/Object;I)Z"⟩, 12), (⟨"ThunderCasks", "kindsThatFit", "(Ljava/lang/Object;I)I"⟩, 12), (⟨"ThunderCasks", "stormed", "(I)I"⟩, 12), (⟨"ThunderCasks$Reader", "next", "()V"⟩, 8), (⟨"ThunderCasks$Reader", "byteAt", "(I)I"⟩, 8), (⟨"ThunderCasks$Reader", "word", "()V"⟩, 8), (⟨"ThunderCasks$Reader", "isKey", "(II)Z"⟩, 8), (⟨"ThunderCasks$Reader", "need", "(Z)V"⟩, 8), (⟨"ThunderCasks$Reader", "digits", "()V"⟩, 8), (⟨"ThunderCasks$Reader", "item", "()V"⟩, 8), (⟨"ThunderCasks$Reader", "storm", "()V"⟩, 8), (⟨"ThunderCasks$Reader", "behind", "(II)I"⟩, 8), (⟨"ThunderCasks$Reader", "number", "(II)I"⟩, 8)]
theorem lw_r3 : ∀ q ∈ lw_privs_3, lw_okq q := List.forall_mem_cons.mpr ⟨lw_p32, List.forall_mem_cons.mpr ⟨lw_p33, List.forall_mem_cons.mpr ⟨lw_p34, List.forall_mem_cons.mpr ⟨lw_p35, List.forall_mem_cons.mpr ⟨lw_p36, List.forall_mem_cons.mpr ⟨lw_p37, List.forall_mem_cons.mpr ⟨lw_p38, List.forall_mem_cons.mpr ⟨lw_p39, List.forall_mem_cons.mpr ⟨lw_p40, List.forall_mem_cons.mpr ⟨lw_p41, List.forall_mem_cons.mpr ⟨lw_p42, List.forall_mem_cons.mpr ⟨lw_p43, List.forall_mem_cons.mpr ⟨lw_p44, List.forall_mem_cons.mpr ⟨lw_p45, List.forall_mem_cons.mpr ⟨lw_p46, List.forall_mem_cons.mpr ⟨lw_p47, fun _ h => absurd h List.not_mem_nil⟩⟩⟩⟩⟩⟩⟩⟩⟩⟩⟩⟩⟩⟩⟩⟩
theorem lw_p48 : lw_okq (⟨"ThunderCasks$Reader", "frost", "()V"⟩, 8) := ⟨⟨by decide +kernel, by decide +kernel⟩, lw_t1 (List.mem_of_getElem? (i := 102) rfl), lw_t5 (List.mem_of_getElem? (i := 55) rfl), lw_t5 (List.mem_of_getElem? (i := 56) rfl)⟩
theorem lw_p49 : lw_okq (⟨"ThunderCasks$Reader", "cask", "(I)V"⟩, 8) := ⟨⟨by decide +kernel, by decide +kernel⟩, lw_t1 (List.mem_of_getElem? (i := 102) rfl), lw_t5 (List.mem_of_getElem? (i := 59) rfl), lw_t5 (List.mem_of_getElem? (i := 60) rfl)⟩
theorem lw_p50 : lw_okq (⟨"ThunderCasks$Reader", "isWord", "(I)Z"⟩, 8) := ⟨⟨by decide +kernel, by decide +kernel⟩, lw_t1 (List.mem_of_getElem? (i := 102) rfl), lw_t5 (List.mem_of_getElem? (i := 63) rfl), lw_t5 (List.mem_of_getElem? (i := 64) rfl)⟩
theorem lw_p51 : lw_okq (⟨"ThunderCasks$Reader", "perhaps", "(III)V"⟩, 8) := ⟨⟨by decide +kernel, by decide +kernel⟩, lw_t1 (List.mem_of_getElem? (i := 102) rfl), lw_t5 (List.mem_of_getElem? (i := 68) rfl), lw_t5 (List.mem_of_getElem? (i := 69) rfl)⟩
theorem lw_p52 : lw_okq (⟨"ThunderCasks", "thingAt", "(I)Ljava/lang/Object;"⟩, 12) := ⟨⟨by decide +kernel, by decide +kernel⟩, lw_t1 (List.mem_of_getElem? (i := 26) rfl), lw_t5 (List.mem_of_getElem? (i := 83) rfl), lw_t5 (List.mem_of_getElem? (i := 84) rfl)⟩
theorem lw_p53 : lw_okq (⟨"ThunderCasks", "loads", "(Ljava/lang/Object;)I"⟩, 12) := ⟨⟨by decide +kernel, by decide +kernel⟩, lw_t1 (List.mem_of_getElem? (i := 26) rfl), lw_t5 (List.mem_of_getElem? (i := 138) rfl), lw_t5 (List.mem_of_getElem? (i := 139) rfl)⟩
theorem lw_p54 : lw_okq (⟨"ThunderCasks", "holding", "()I"⟩, 12) := ⟨⟨by decide +kernel, by decide +kernel⟩, lw_t1 (List.mem_of_getElem? (i := 26) rfl), lw_t5 (List.mem_of_getElem? (i := 162) rfl), lw_t5 (List.mem_of_getElem? (i := 163) rfl)⟩
theorem lw_p55 : lw_okq (⟨"ThunderCasksModel", "becomes", "(II)I"⟩, 18) := ⟨⟨by decide +kernel, by decide +kernel⟩, lw_t5 (List.mem_of_getElem? (i := 170) rfl), lw_t6 (List.mem_of_getElem? (i := 2) rfl), lw_t6 (List.mem_of_getElem? (i := 3) rfl)⟩
theorem lw_p56 : lw_okq (⟨"ThunderCasksModel", "finds", "(I)I"⟩, 18) := ⟨⟨by decide +kernel, by decide +kernel⟩, lw_t5 (List.mem_of_getElem? (i := 170) rfl), lw_t6 (List.mem_of_getElem? (i := 7) rfl), lw_t6 (List.mem_of_getElem? (i := 8) rfl)⟩
theorem lw_p57 : lw_okq (⟨"ThunderCasksModel", "there", "(I)I"⟩, 18) := ⟨⟨by decide +kernel, by decide +kernel⟩, lw_t5 (List.mem_of_getElem? (i := 170) rfl), lw_t6 (List.mem_of_getElem? (i := 16) rfl), lw_t6 (List.mem_of_getElem? (i := 17) rfl)⟩
theorem lw_p58 : lw_okq (⟨"ThunderCasksModel", "its", "(II)I"⟩, 18) := ⟨⟨by decide +kernel, by decide +kernel⟩, lw_t5 (List.mem_of_getElem? (i := 170) rfl), lw_t6 (List.mem_of_getElem? (i := 20) rfl), lw_t6 (List.mem_of_getElem? (i := 21) rfl)⟩
theorem lw_p59 : lw_okq (⟨"ThunderCasksModel", "emptiest", "(I)I"⟩, 18) := ⟨⟨by decide +kernel, by decide +kernel⟩, lw_t5 (List.mem_of_getElem? (i := 170) rfl), lw_t6 (List.mem_of_getElem? (i := 24) rfl), lw_t6 (List.mem_of_getElem? (i := 25) rfl)⟩
theorem lw_p60 : lw_okq (⟨"ThunderCasksModel", "comes", "(II)V"⟩, 18) := ⟨⟨by decide +kernel, by decide +kernel⟩, lw_t5 (List.mem_of_getElem? (i := 170) rfl), lw_t6 (List.mem_of_getElem? (i := 39) rfl), lw_t6 (List.mem_of_getElem? (i := 40) rfl)⟩
theorem lw_p61 : lw_okq (⟨"ThunderCasksModel", "isCask", "(I)Z"⟩, 18) := ⟨⟨by decide +kernel, by decide +kernel⟩, lw_t5 (List.mem_of_getElem? (i := 170) rfl), lw_t6 (List.mem_of_getElem? (i := 50) rfl), lw_t6 (List.mem_of_getElem? (i := 51) rfl)⟩
theorem lw_p62 : lw_okq (⟨"ThunderCasksModel", "loud", "(I)I"⟩, 18) := ⟨⟨by decide +kernel, by decide +kernel⟩, lw_t5 (List.mem_of_getElem? (i := 170) rfl), lw_t6 (List.mem_of_getElem? (i := 54) rfl), lw_t6 (List.mem_of_getElem? (i := 55) rfl)⟩
theorem lw_p63 : lw_okq (⟨"ThunderCasksModel", "leaks", "(I)I"⟩, 18) := ⟨⟨by decide +kernel, by decide +kernel⟩, lw_t5 (List.mem_of_getElem? (i := 170) rfl), lw_t6 (List.mem_of_getElem? (i := 64) rfl), lw_t6 (List.mem_of_getElem? (i := 65) rfl)⟩
def lw_privs_4 : List (MethodName × Nat) := [(⟨"ThunderCasks$Reader", "frost", "()V"⟩, 8), (⟨"ThunderCasks$Reader", "cask", "(I)V"⟩, 8), (⟨"ThunderCasks$Reader", "isWord", "(I)Z"⟩, 8), (⟨"ThunderCasks$Reader", "perhaps", "(III)V"⟩, 8), (⟨"ThunderCasks", "thingAt", "(I)Ljava/lang/Object;"⟩, 12), (⟨"ThunderCasks", "loads", "(Ljava/lang/Object;)I"⟩, 12), (⟨"ThunderCasks", "holding", "()I"⟩, 12), (⟨"ThunderCasksModel", "becomes", "(II)I"⟩, 18), (⟨"ThunderCasksModel", "finds", "(I)I"⟩, 18), (⟨"ThunderCasksModel", "there", "(I)I"⟩, 18), (⟨"ThunderCasksModel", "its", "(II)I"⟩, 18), (⟨"ThunderCasksModel", "emptiest", "(I)I"⟩, 18), (⟨"ThunderCasksModel", "comes", "(II)V"⟩, 18), (⟨"ThunderCasksModel", "isCask", "(I)Z"⟩, 18), (⟨"ThunderCasksModel", "loud", "(I)I"⟩, 18), (⟨"ThunderCasksModel", "leaks", "(I)I"⟩, 18)]
theorem lw_r4 : ∀ q ∈ lw_privs_4, lw_okq q := List.forall_mem_cons.mpr ⟨lw_p48, List.forall_mem_cons.mpr ⟨lw_p49, List.forall_mem_cons.mpr ⟨lw_p50, List.forall_mem_cons.mpr ⟨lw_p51, List.forall_mem_cons.mpr ⟨lw_p52, List.forall_mem_cons.mpr ⟨lw_p53, List.forall_mem_cons.mpr ⟨lw_p54, List.forall_mem_cons.mpr ⟨lw_p55, List.forall_mem_cons.mpr ⟨lw_p56, List.forall_mem_cons.mpr ⟨lw_p57, List.forall_mem_cons.mpr ⟨lw_p58, List.forall_mem_cons.mpr ⟨lw_p59, List.forall_mem_cons.mpr ⟨lw_p60, List.forall_mem_cons.mpr ⟨lw_p61, List.forall_mem_cons.mpr ⟨lw_p62, List.forall_mem_cons.mpr ⟨lw_p63, fun _ h => absurd h List.not_mem_nil⟩⟩⟩⟩⟩⟩⟩⟩⟩⟩⟩⟩⟩⟩⟩⟩
theorem lw_p64 : lw_okq (⟨"ThunderCasksModel", "bears", "(I)I"⟩, 18) := ⟨⟨by decide +kernel, by decide +kernel⟩, lw_t5 (List.mem_of_getElem? (i := 170) rfl), lw_t6 (List.mem_of_getElem? (i := 68) rfl), lw_t6 (List.mem_of_getElem? (i := 69) rfl)⟩
theorem lw_p65 : lw_okq (⟨"ThunderCasksModel", "goes", "(I)V"⟩, 18) := ⟨⟨by decide +kernel, by decide +kernel⟩, lw_t5 (List.mem_of_getElem? (i := 170) rfl), lw_t6 (List.mem_of_getElem? (i := 90) rfl), lw_t6 (List.mem_of_getElem? (i := 91) rfl)⟩
theorem lw_p66 : lw_okq (⟨"ThunderCasksModel", "day", "()V"⟩, 18) := ⟨⟨by decide +kernel, by decide +kernel⟩, lw_t5 (List.mem_of_getElem? (i := 170) rfl), lw_t6 (List.mem_of_getElem? (i := 94) rfl), lw_t6 (List.mem_of_getElem? (i := 95) rfl)⟩
theorem lw_p67 : lw_okq (⟨"ThunderCasksModel", "more", "(II)V"⟩, 18) := ⟨⟨by decide +kernel, by decide +kernel⟩, lw_t5 (List.mem_of_getElem? (i := 170) rfl), lw_t6 (List.mem_of_getElem? (i := 98) rfl), lw_t6 (List.mem_of_getElem? (i := 99) rfl)⟩
theorem lw_p68 : lw_okq (⟨"ThunderCasksModel", "cancel", "(II)V"⟩, 18) := ⟨⟨by decide +kernel, by decide +kernel⟩, lw_t5 (List.mem_of_getElem? (i := 170) rfl), lw_t6 (List.mem_of_getElem? (i := 105) rfl), lw_t6 (List.mem_of_getElem? (i := 106) rfl)⟩
theorem lw_p69 : lw_okq (⟨"ThunderCasksModel", "strained", "()I"⟩, 18) := ⟨⟨by decide +kernel, by decide +kernel⟩, lw_t5 (List.mem_of_getElem? (i := 170) rfl), lw_t6 (List.mem_of_getElem? (i := 109) rfl), lw_t6 (List.mem_of_getElem? (i := 110) rfl)⟩
theorem lw_p70 : lw_okq (⟨"ThunderCasksModel", "burst", "(I)V"⟩, 18) := ⟨⟨by decide +kernel, by decide +kernel⟩, lw_t5 (List.mem_of_getElem? (i := 170) rfl), lw_t6 (List.mem_of_getElem? (i := 113) rfl), lw_t6 (List.mem_of_getElem? (i := 114) rfl)⟩
theorem lw_p71 : lw_okq (⟨"ThunderCasksModel", "sumOf", "(I)I"⟩, 18) := ⟨⟨by decide +kernel, by decide +kernel⟩, lw_t5 (List.mem_of_getElem? (i := 170) rfl), lw_t6 (List.mem_of_getElem? (i := 121) rfl), lw_t6 (List.mem_of_getElem? (i := 122) rfl)⟩
theorem lw_p72 : lw_okq (⟨"ThunderCasksModel", "strainedOnes", "()I"⟩, 18) := ⟨⟨by decide +kernel, by decide +kernel⟩, lw_t5 (List.mem_of_getElem? (i := 170) rfl), lw_t6 (List.mem_of_getElem? (i := 125) rfl), lw_t6 (List.mem_of_getElem? (i := 126) rfl)⟩
theorem lw_p73 : lw_okq (⟨"ThunderCasksModel", "loudest", "()I"⟩, 18) := ⟨⟨by decide +kernel, by decide +kernel⟩, lw_t5 (List.mem_of_getElem? (i := 170) rfl), lw_t6 (List.mem_of_getElem? (i := 129) rfl), lw_t6 (List.mem_of_getElem? (i := 130) rfl)⟩
theorem lw_p74 : lw_okq (⟨"ThunderCasksModel", "usedOnes", "()I"⟩, 18) := ⟨⟨by decide +kernel, by decide +kernel⟩, lw_t5 (List.mem_of_getElem? (i := 170) rfl), lw_t6 (List.mem_of_getElem? (i := 133) rfl), lw_t6 (List.mem_of_getElem? (i := 134) rfl)⟩
theorem lw_p75 : lw_okq (⟨"ThunderCasksModel", "then", "(III)I"⟩, 18) := ⟨⟨by decide +kernel, by decide +kernel⟩, lw_t5 (List.mem_of_getElem? (i := 170) rfl), lw_t6 (List.mem_of_getElem? (i := 144) rfl), lw_t6 (List.mem_of_getElem? (i := 145) rfl)⟩
theorem lw_p76 : lw_okq (⟨"ThunderCasksModel", "clapsThen", "(I)I"⟩, 18) := ⟨⟨by decide +kernel, by decide +kernel⟩, lw_t5 (List.mem_of_getElem? (i := 170) rfl), lw_t6 (List.mem_of_getElem? (i := 155) rfl), lw_t6 (List.mem_of_getElem? (i := 156) rfl)⟩
theorem lw_p77 : lw_okq (⟨"ThunderCasksModel", "isAsked", "(II)Z"⟩, 18) := ⟨⟨by decide +kernel, by decide +kernel⟩, lw_t5 (List.mem_of_getElem? (i := 170) rfl), lw_t6 (List.mem_of_getElem? (i := 177) rfl), lw_t6 (List.mem_of_getElem? (i := 178) rfl)⟩
theorem lw_p78 : lw_okq (⟨"ThunderCasksModel", "loudestBy", "(III)I"⟩, 18) := ⟨⟨by decide +kernel, by decide +kernel⟩, lw_t5 (List.mem_of_getElem? (i := 170) rfl), lw_t6 (List.mem_of_getElem? (i := 182) rfl), lw_t6 (List.mem_of_getElem? (i := 183) rfl)⟩
theorem lw_p79 : lw_okq (⟨"ThunderCasksModel", "orNone", "(I)I"⟩, 18) := ⟨⟨by decide +kernel, by decide +kernel⟩, lw_t5 (List.mem_of_getElem? (i := 170) rfl), lw_t6 (List.mem_of_getElem? (i := 199) rfl), lw_t6 (List.mem_of_getElem? (i := 200) rfl)⟩
def lw_privs_5 : List (MethodName × Nat) := [(⟨"ThunderCasksModel", "bears", "(I)I"⟩, 18), (⟨"ThunderCasksModel", "goes", "(I)V"⟩, 18), (⟨"ThunderCasksModel", "day", "()V"⟩, 18), (⟨"ThunderCasksModel", "more", "(II)V"⟩, 18), (⟨"ThunderCasksModel", "cancel", "(II)V"⟩, 18), (⟨"ThunderCasksModel", "strained", "()I"⟩, 18), (⟨"ThunderCasksModel", "burst", "(I)V"⟩, 18), (⟨"ThunderCasksModel", "sumOf", "(I)I"⟩, 18), (⟨"ThunderCasksModel", "strainedOnes", "()I"⟩, 18), (⟨"ThunderCasksModel", "loudest", "()I"⟩, 18), (⟨"ThunderCasksModel", "usedOnes", "()I"⟩, 18), (⟨"ThunderCasksModel", "then", "(III)I"⟩, 18), (⟨"ThunderCasksModel", "clapsThen", "(I)I"⟩, 18), (⟨"ThunderCasksModel", "isAsked", "(II)Z"⟩, 18), (⟨"ThunderCasksModel", "loudestBy", "(III)I"⟩, 18), (⟨"ThunderCasksModel", "orNone", "(I)I"⟩, 18)]
theorem lw_r5 : ∀ q ∈ lw_privs_5, lw_okq q := List.forall_mem_cons.mpr ⟨lw_p64, List.forall_mem_cons.mpr ⟨lw_p65, List.forall_mem_cons.mpr ⟨lw_p66, List.forall_mem_cons.mpr ⟨lw_p67, List.forall_mem_cons.mpr ⟨lw_p68, List.forall_mem_cons.mpr ⟨lw_p69, List.forall_mem_cons.mpr ⟨lw_p70, List.forall_mem_cons.mpr ⟨lw_p71, List.forall_mem_cons.mpr ⟨lw_p72, List.forall_mem_cons.mpr ⟨lw_p73, List.forall_mem_cons.mpr ⟨lw_p74, List.forall_mem_cons.mpr ⟨lw_p75, List.forall_mem_cons.mpr ⟨lw_p76, List.forall_mem_cons.mpr ⟨lw_p77, List.forall_mem_cons.mpr ⟨lw_p78, List.forall_mem_cons.mpr ⟨lw_p79, fun _ h => absurd h List.not_mem_nil⟩⟩⟩⟩⟩⟩⟩⟩⟩⟩⟩⟩⟩⟩⟩⟩
theorem lw_p80 : lw_okq (⟨"ThunderCasksModel", "blendOf", "(I)I"⟩, 18) := ⟨⟨by decide +kernel, by decide +kernel⟩, lw_t5 (List.mem_of_getElem? (i := 170) rfl), lw_t6 (List.mem_of_getElem? (i := 216) rfl), lw_t6 (List.mem_of_getElem? (i := 217) rfl)⟩
theorem lw_p81 : lw_okq (⟨"ThunderCasksModel", "wantsFor", "(II)I"⟩, 18) := ⟨⟨by decide +kernel, by decide +kernel⟩, lw_t5 (List.mem_of_getElem? (i := 170) rfl), lw_t6 (List.mem_of_getElem? (i := 233) rfl), lw_t6 (List.mem_of_getElem? (i := 234) rfl)⟩
theorem lw_p82 : lw_okq (⟨"ThunderCasksModel", "wants", "(I)I"⟩, 18) := ⟨⟨by decide +kernel, by decide +kernel⟩, lw_t5 (List.mem_of_getElem? (i := 170) rfl), lw_t6 (List.mem_of_getElem? (i := 237) rfl), lw_t6 (List.mem_of_getElem? (i := 238) rfl)⟩
theorem lw_p83 : lw_okq (⟨"ThunderCasksModel", "findsFits", "(II)V"⟩, 18) := ⟨⟨by decide +kernel, by decide +kernel⟩, lw_t5 (List.mem_of_getElem? (i := 170) rfl), lw_t7 (List.mem_of_getElem? (i := 5) rfl), lw_t7 (List.mem_of_getElem? (i := 6) rfl)⟩
theorem lw_p84 : lw_okq (⟨"ThunderCasksModel", "isTold", "(II)Z"⟩, 18) := ⟨⟨by decide +kernel, by decide +kernel⟩, lw_t5 (List.mem_of_getElem? (i := 170) rfl), lw_t7 (List.mem_of_getElem? (i := 9) rfl), lw_t7 (List.mem_of_getElem? (i := 10) rfl)⟩
theorem lw_p85 : lw_okq (⟨"ThunderCasksModel", "draw", "()I"⟩, 18) := ⟨⟨by decide +kernel, by decide +kernel⟩, lw_t5 (List.mem_of_getElem? (i := 170) rfl), lw_t7 (List.mem_of_getElem? (i := 25) rfl), lw_t7 (List.mem_of_getElem? (i := 26) rfl)⟩
theorem lw_p86 : lw_okq (⟨"ThunderCasksModel", "nextToken", "()V"⟩, 18) := ⟨⟨by decide +kernel, by decide +kernel⟩, lw_t5 (List.mem_of_getElem? (i := 170) rfl), lw_t7 (List.mem_of_getElem? (i := 52) rfl), lw_t7 (List.mem_of_getElem? (i := 53) rfl)⟩
theorem lw_p87 : lw_okq (⟨"ThunderCasksModel", "byteAt", "(I)I"⟩, 18) := ⟨⟨by decide +kernel, by decide +kernel⟩, lw_t5 (List.mem_of_getElem? (i := 170) rfl), lw_t7 (List.mem_of_getElem? (i := 56) rfl), lw_t7 (List.mem_of_getElem? (i := 57) rfl)⟩
theorem lw_p88 : lw_okq (⟨"ThunderCasksModel", "itemHere", "()Z"⟩, 18) := ⟨⟨by decide +kernel, by decide +kernel⟩, lw_t5 (List.mem_of_getElem? (i := 170) rfl), lw_t7 (List.mem_of_getElem? (i := 66) rfl), lw_t7 (List.mem_of_getElem? (i := 67) rfl)⟩
theorem lw_p89 : lw_okq (⟨"ThunderCasksModel", "kindHere", "()I"⟩, 18) := ⟨⟨by decide +kernel, by decide +kernel⟩, lw_t5 (List.mem_of_getElem? (i := 170) rfl), lw_t7 (List.mem_of_getElem? (i := 70) rfl), lw_t7 (List.mem_of_getElem? (i := 71) rfl)⟩
theorem lw_p90 : lw_okq (⟨"ThunderCasksModel", "isFour", "(IIII)Z"⟩, 18) := ⟨⟨by decide +kernel, by decide +kernel⟩, lw_t5 (List.mem_of_getElem? (i := 170) rfl), lw_t7 (List.mem_of_getElem? (i := 74) rfl), lw_t7 (List.mem_of_getElem? (i := 75) rfl)⟩
theorem lw_p91 : lw_okq (⟨"ThunderCasksModel", "isWord", "(I)Z"⟩, 18) := ⟨⟨by decide +kernel, by decide +kernel⟩, lw_t5 (List.mem_of_getElem? (i := 170) rfl), lw_t7 (List.mem_of_getElem? (i := 78) rfl), lw_t7 (List.mem_of_getElem? (i := 79) rfl)⟩
theorem lw_p92 : lw_okq (⟨"ThunderCasksModel", "has3", "(IIII)Z"⟩, 18) := ⟨⟨by decide +kernel, by decide +kernel⟩, lw_t5 (List.mem_of_getElem? (i := 170) rfl), lw_t7 (List.mem_of_getElem? (i := 82) rfl), lw_t7 (List.mem_of_getElem? (i := 83) rfl)⟩
theorem lw_p93 : lw_okq (⟨"ThunderCasksModel", "isFive", "(IIIII)Z"⟩, 18) := ⟨⟨by decide +kernel, by decide +kernel⟩, lw_t5 (List.mem_of_getElem? (i := 170) rfl), lw_t7 (List.mem_of_getElem? (i := 86) rfl), lw_t7 (List.mem_of_getElem? (i := 87) rfl)⟩
theorem lw_p94 : lw_okq (⟨"ThunderCasksModel", "isSix", "(IIIIII)Z"⟩, 18) := ⟨⟨by decide +kernel, by decide +kernel⟩, lw_t5 (List.mem_of_getElem? (i := 170) rfl), lw_t7 (List.mem_of_getElem? (i := 90) rfl), lw_t7 (List.mem_of_getElem? (i := 91) rfl)⟩
theorem lw_p95 : lw_okq (⟨"ThunderCasksModel", "caskHere", "(I)Z"⟩, 18) := ⟨⟨by decide +kernel, by decide +kernel⟩, lw_t5 (List.mem_of_getElem? (i := 170) rfl), lw_t7 (List.mem_of_getElem? (i := 94) rfl), lw_t7 (List.mem_of_getElem? (i := 95) rfl)⟩
def lw_privs_6 : List (MethodName × Nat) := [(⟨"ThunderCasksModel", "blendOf", "(I)I"⟩, 18), (⟨"ThunderCasksModel", "wantsFor", "(II)I"⟩, 18), (⟨"ThunderCasksModel", "wants", "(I)I"⟩, 18), (⟨"ThunderCasksModel", "findsFits", "(II)V"⟩, 18), (⟨"ThunderCasksModel", "isTold", "(II)Z"⟩, 18), (⟨"ThunderCasksModel", "draw", "()I"⟩, 18), (⟨"ThunderCasksModel", "nextToken", "()V"⟩, 18), (⟨"ThunderCasksModel", "byteAt", "(I)I"⟩, 18), (⟨"ThunderCasksModel", "itemHere", "()Z"⟩, 18), (⟨"ThunderCasksModel", "kindHere", "()I"⟩, 18), (⟨"ThunderCasksModel", "isFour", "(IIII)Z"⟩, 18), (⟨"ThunderCasksModel", "isWord", "(I)Z"⟩, 18), (⟨"ThunderCasksModel", "has3", "(IIII)Z"⟩, 18), (⟨"ThunderCasksModel", "isFive", "(IIIII)Z"⟩, 18), (⟨"ThunderCasksModel", "isSix", "(IIIIII)Z"⟩, 18), (⟨"ThunderCasksModel", "caskHere", "(I)Z"⟩, 18)]
theorem lw_r6 : ∀ q ∈ lw_privs_6, lw_okq q := List.forall_mem_cons.mpr ⟨lw_p80, List.forall_mem_cons.mpr ⟨lw_p81, List.forall_mem_cons.mpr ⟨lw_p82, List.forall_mem_cons.mpr ⟨lw_p83, List.forall_mem_cons.mpr ⟨lw_p84, List.forall_mem_cons.mpr ⟨lw_p85, List.forall_mem_cons.mpr ⟨lw_p86, List.forall_mem_cons.mpr ⟨lw_p87, List.forall_mem_cons.mpr ⟨lw_p88, List.forall_mem_cons.mpr ⟨lw_p89, List.forall_mem_cons.mpr ⟨lw_p90, List.forall_mem_cons.mpr ⟨lw_p91, List.forall_mem_cons.mpr ⟨lw_p92, List.forall_mem_cons.mpr ⟨lw_p93, List.forall_mem_cons.mpr ⟨lw_p94, List.forall_mem_cons.mpr ⟨lw_p95, fun _ h => absurd h List.not_mem_nil⟩⟩⟩⟩⟩⟩⟩⟩⟩⟩⟩⟩⟩⟩⟩⟩
theorem lw_p96 : lw_okq (⟨"ThunderCasksModel", "fails", "()Z"⟩, 18) := ⟨⟨by decide +kernel, by decide +kernel⟩, lw_t5 (List.mem_of_getElem? (i := 170) rfl), lw_t7 (List.mem_of_getElem? (i := 98) rfl), lw_t7 (List.mem_of_getElem? (i := 99) rfl)⟩
theorem lw_p97 : lw_okq (⟨"ThunderCasksModel", "perhaps", "(ZII)Z"⟩, 18) := ⟨⟨by decide +kernel, by decide +kernel⟩, lw_t5 (List.mem_of_getElem? (i := 170) rfl), lw_t7 (List.mem_of_getElem? (i := 102) rfl), lw_t7 (List.mem_of_getElem? (i := 103) rfl)⟩
theorem lw_p98 : lw_okq (⟨"ThunderCasksModel", "isNumber", "(II)Z"⟩, 18) := ⟨⟨by decide +kernel, by decide +kernel⟩, lw_t5 (List.mem_of_getElem? (i := 170) rfl), lw_t7 (List.mem_of_getElem? (i := 106) rfl), lw_t7 (List.mem_of_getElem? (i := 107) rfl)⟩
theorem lw_p99 : lw_okq (⟨"ThunderCasksModel", "cellarHere", "(II)Z"⟩, 18) := ⟨⟨by decide +kernel, by decide +kernel⟩, lw_t5 (List.mem_of_getElem? (i := 170) rfl), lw_t7 (List.mem_of_getElem? (i := 110) rfl), lw_t7 (List.mem_of_getElem? (i := 111) rfl)⟩
def lw_privs_7 : List (MethodName × Nat) := [(⟨"ThunderCasksModel", "fails", "()Z"⟩, 18), (⟨"ThunderCasksModel", "perhaps", "(ZII)Z"⟩, 18), (⟨"ThunderCasksModel", "isNumber", "(II)Z"⟩, 18), (⟨"ThunderCasksModel", "cellarHere", "(II)Z"⟩, 18)]
theorem lw_r7 : ∀ q ∈ lw_privs_7, lw_okq q := List.forall_mem_cons.mpr ⟨lw_p96, List.forall_mem_cons.mpr ⟨lw_p97, List.forall_mem_cons.mpr ⟨lw_p98, List.forall_mem_cons.mpr ⟨lw_p99, fun _ h => absurd h List.not_mem_nil⟩⟩⟩⟩
def lw_privs : List (MethodName × Nat) := lw_privs_1 ++ (lw_privs_2 ++ (lw_privs_3 ++ (lw_privs_4 ++ (lw_privs_5 ++ (lw_privs_6 ++ (lw_privs_7))))))
def lw_tbl : List Cond := k2_sels lw_privs ++ tables_1
theorem lw_privs_ok : ∀ q ∈ lw_privs, lw_okq q := by
  show ∀ q ∈ lw_privs_1 ++ (lw_privs_2 ++ (lw_privs_3 ++ (lw_privs_4 ++ (lw_privs_5 ++ (lw_privs_6 ++ (lw_privs_7)))))), lw_okq q
  exact List.forall_mem_append.mpr ⟨lw_r1, List.forall_mem_append.mpr ⟨lw_r2, List.forall_mem_append.mpr ⟨lw_r3, List.forall_mem_append.mpr ⟨lw_r4, List.forall_mem_append.mpr ⟨lw_r5, List.forall_mem_append.mpr ⟨lw_r6, lw_r7⟩⟩⟩⟩⟩⟩
-- ===== ONE list of words for every method: the tables' words that hold all through a run =====
def lw_all : List Cond := lw_tbl.filter goodWord
/-- a word of the tables by its place: claim/WORDS.tsv -/
theorem lw_w {w : Cond} (i : Nat) (h : lw_tbl[i]? = some w) (g : goodWord w = true) : w ∈ lw_all := List.mem_filter.mpr ⟨List.mem_of_getElem? h, g⟩
theorem lw_all_tbl {w : Cond} (h : w ∈ lw_all) : w ∈ lw_tbl := (List.mem_filter.mp h).1
theorem lw_self : GoodIn lw_all lw_all := fun w h => ⟨h, good_of_word (List.mem_filter.mp h).2⟩
/-- a class's field words, by their places -/
theorem lw_in (ws : List Cond) (ps : List Nat) (hp : ws = ps.filterMap (fun i => lw_tbl[i]?)) (hg : ws.all goodWord = true) : ∀ w ∈ ws, w ∈ lw_all := by
  intro w h
  have h1 := List.all_eq_true.mp hg w h
  rw [hp] at h
  obtain ⟨i, -, hi⟩ := List.mem_filterMap.mp h
  exact lw_w i hi h1
/-- the words of a contract for the method y with code b, L locals, answer r -/
abbrev ws_ (y : MethodName) (b : ByteArray) (L : Nat) (r : Option FieldType) : List Cond := Cond.code y b L r :: lw_all
theorem lw_meth {y : MethodName} {b : ByteArray} {L : Nat} {r : Option FieldType} (h : Cond.code y b L r ∈ lw_all) : GoodIn lw_all (ws_ y b L r) := by
  intro w hw
  rcases List.mem_cons.mp hw with e | e
  · rw [e]
    exact lw_self _ h
  · exact lw_self _ e
theorem lw_app {a c : List Cond} (ha : ∀ w ∈ a, w ∈ lw_all) (hc : GoodIn lw_all c) : GoodIn lw_all (a ++ c) := by
  intro w hw
  rcases List.mem_append.mp hw with e | e
  · exact lw_self w (ha w e)
  · exact hc w e
/-- what a call through an object asks: cwV n hts (lw_V ..) -/
theorem lw_V {own : String} {idx : Nat} {C : String} {y : MethodName} {b : ByteArray} {L : Nat} {r : Option FieldType} (h1 : Cond.methodLink own idx y ∈ lw_all) (h2 : Cond.instanceMethod y ∈ lw_all) (h3 : Cond.selects C y y ∈ lw_all) (h4 : Cond.initialized C ∈ lw_all) (h5 : Cond.code y b L r ∈ lw_all) : GoodIn lw_all (wsV own idx C y (ws_ y b L r)) := by
  refine lw_app ?_ (lw_meth h5)
  intro w hw
  simp only [List.mem_cons, List.not_mem_nil, or_false] at hw
  rcases hw with e | e | e | e
  · rw [e]; exact h1
  · rw [e]; exact h2
  · rw [e]; exact h3
  · rw [e]; exact h4
/-- what a static call asks: va_cwS n hts (lw_S ..) -/
theorem lw_S {own : String} {idx : Nat} {y : MethodName} {b : ByteArray} {L : Nat} {r : Option FieldType} (h1 : Cond.methodLink own idx y ∈ lw_all) (h2 : Cond.static y ∈ lw_all) (h3 : Cond.initialized y.cls ∈ lw_all) (h4 : Cond.code y b L r ∈ lw_all) : GoodIn lw_all (va_wsS own idx y (ws_ y b L r)) := by
  refine lw_app ?_ (lw_meth h4)
  intro w hw
  simp only [List.mem_cons, List.not_mem_nil, or_false] at hw
  rcases hw with e | e | e
  · rw [e]; exact h1
  · rw [e]; exact h2
  · rw [e]; exact h3
/-- the words of a contract for a method WITH HANDLERS (hh: its table) -/
abbrev wsW_ (y : MethodName) (b : ByteArray) (L : Nat) (r : Option FieldType) (hh : List (Nat × Nat × Nat × Nat)) : List Cond := Cond.codeWith y b L r hh :: lw_all
theorem lw_methW {y : MethodName} {b : ByteArray} {L : Nat} {r : Option FieldType} {hh : List (Nat × Nat × Nat × Nat)} (h : Cond.codeWith y b L r hh ∈ lw_all) : GoodIn lw_all (wsW_ y b L r hh) := by
  intro w hw
  rcases List.mem_cons.mp hw with e | e
  · rw [e]
    exact lw_self _ h
  · exact lw_self _ e
/-- any list of words by their places (lw_in), good -/
theorem lw_good {ws : List Cond} (h : ∀ w ∈ ws, w ∈ lw_all) : GoodIn lw_all ws := fun w hw => lw_self w (h w hw)
/-- what a call of a method with handlers asks: vx_cwVW n hts (lw_VW ..), vx_cwSW n hts (lw_SW ..) -/
theorem lw_VW {own : String} {idx : Nat} {C : String} {y : MethodName} {b : ByteArray} {L : Nat} {r : Option FieldType} {hh : List (Nat × Nat × Nat × Nat)} (h1 : Cond.methodLink own idx y ∈ lw_all) (h2 : Cond.instanceMethod y ∈ lw_all) (h3 : Cond.selects C y y ∈ lw_all) (h4 : Cond.initialized C ∈ lw_all) (h5 : Cond.codeWith y b L r hh ∈ lw_all) : GoodIn lw_all (wsV own idx C y (wsW_ y b L r hh)) := by
  refine lw_app ?_ (lw_methW h5)
  intro w hw
  simp only [List.mem_cons, List.not_mem_nil, or_false] at hw
  rcases hw with e | e | e | e
  · rw [e]; exact h1
  · rw [e]; exact h2
  · rw [e]; exact h3
  · rw [e]; exact h4
theorem lw_SW {own : String} {idx : Nat} {y : MethodName} {b : ByteArray} {L : Nat} {r : Option FieldType} {hh : List (Nat × Nat × Nat × Nat)} (h1 : Cond.methodLink own idx y ∈ lw_all) (h2 : Cond.static y ∈ lw_all) (h3 : Cond.initialized y.cls ∈ lw_all) (h4 : Cond.codeWith y b L r hh ∈ lw_all) : GoodIn lw_all (va_wsS own idx y (wsW_ y b L r hh)) := by
  refine lw_app ?_ (lw_methW h4)
  intro w hw
  simp only [List.mem_cons, List.not_mem_nil, or_false] at hw
  rcases hw with e | e | e
  · rw [e]; exact h1
  · rw [e]; exact h2
  · rw [e]; exact h3
/-- a word by its place in its run of the tables -/
theorem lw_at {r : List Cond} (hr : ∀ w ∈ r, w ∈ lw_tbl) {w : Cond} (i : Nat) (h : r[i]? = some w) : w ∈ lw_tbl := hr w (List.mem_of_getElem? h)
theorem lw_g {w : Cond} (h : w ∈ lw_tbl) (g : goodWord w = true) : w ∈ lw_all := List.mem_filter.mpr ⟨h, g⟩
theorem lw_ms : ∀ w ∈ k2_sels lw_privs, w ∈ lw_tbl := fun w h => show w ∈ k2_sels lw_privs ++ tables_1 from List.mem_append_left _ h
theorem lw_m1 : ∀ w ∈ tables_1_1, w ∈ lw_tbl := fun w h => show w ∈ k2_sels lw_privs ++ tables_1 from List.mem_append_right (k2_sels lw_privs) (show w ∈ tables_1 from List.mem_append_left _ h)
theorem lw_m2 : ∀ w ∈ tables_1_2, w ∈ lw_tbl := fun w h => show w ∈ k2_sels lw_privs ++ tables_1 from List.mem_append_right (k2_sels lw_privs) (show w ∈ tables_1 from List.mem_append_right _ (List.mem_append_left _ h))
theorem lw_m3 : ∀ w ∈ tables_1_3, w ∈ lw_tbl := fun w h => show w ∈ k2_sels lw_privs ++ tables_1 from List.mem_append_right (k2_sels lw_privs) (show w ∈ tables_1 from List.mem_append_right _ (List.mem_append_right _ (List.mem_append_left _ h)))
theorem lw_m4 : ∀ w ∈ tables_1_4, w ∈ lw_tbl := fun w h => show w ∈ k2_sels lw_privs ++ tables_1 from List.mem_append_right (k2_sels lw_privs) (show w ∈ tables_1 from List.mem_append_right _ (List.mem_append_right _ (List.mem_append_right _ (List.mem_append_left _ h))))
theorem lw_m5 : ∀ w ∈ tables_1_5, w ∈ lw_tbl := fun w h => show w ∈ k2_sels lw_privs ++ tables_1 from List.mem_append_right (k2_sels lw_privs) (show w ∈ tables_1 from List.mem_append_right _ (List.mem_append_right _ (List.mem_append_right _ (List.mem_append_right _ (List.mem_append_left _ h)))))
theorem lw_m6 : ∀ w ∈ tables_1_6, w ∈ lw_tbl := fun w h => show w ∈ k2_sels lw_privs ++ tables_1 from List.mem_append_right (k2_sels lw_privs) (show w ∈ tables_1 from List.mem_append_right _ (List.mem_append_right _ (List.mem_append_right _ (List.mem_append_right _ (List.mem_append_right _ (List.mem_append_left _ h))))))
theorem lw_m7 : ∀ w ∈ tables_1_7, w ∈ lw_tbl := fun w h => show w ∈ k2_sels lw_privs ++ tables_1 from List.mem_append_right (k2_sels lw_privs) (show w ∈ tables_1 from List.mem_append_right _ (List.mem_append_right _ (List.mem_append_right _ (List.mem_append_right _ (List.mem_append_right _ (List.mem_append_right _ h))))))
theorem qs0 : (Cond.selects "java/lang/Throwable" ⟨"java/lang/Throwable", "fillInStackTrace", "(I)Ljava/lang/Throwable;"⟩ ⟨"java/lang/Throwable", "fillInStackTrace", "(I)Ljava/lang/Throwable;"⟩) ∈ lw_all := lw_g (lw_at lw_ms 0 rfl) rfl
theorem qs1 : (Cond.selects "ThunderCasks" ⟨"ThunderCasks", "made", "(II)LThunderCasks$Cask;"⟩ ⟨"ThunderCasks", "made", "(II)LThunderCasks$Cask;"⟩) ∈ lw_all := lw_g (lw_at lw_ms 1 rfl) rfl
theorem qs2 : (Cond.selects "ThunderCasks" ⟨"ThunderCasks", "finding", "(I)I"⟩ ⟨"ThunderCasks", "finding", "(I)I"⟩) ∈ lw_all := lw_g (lw_at lw_ms 2 rfl) rfl
theorem qs3 : (Cond.selects "ThunderCasks" ⟨"ThunderCasks", "isCask", "(I)Z"⟩ ⟨"ThunderCasks", "isCask", "(I)Z"⟩) ∈ lw_all := lw_g (lw_at lw_ms 3 rfl) rfl
theorem qs4 : (Cond.selects "ThunderCasks" ⟨"ThunderCasks", "caskOf", "(I)LThunderCasks$Cask;"⟩ ⟨"ThunderCasks", "caskOf", "(I)LThunderCasks$Cask;"⟩) ∈ lw_all := lw_g (lw_at lw_ms 4 rfl) rfl
theorem qs5 : (Cond.selects "ThunderCasks" ⟨"ThunderCasks", "loudOf", "(I)I"⟩ ⟨"ThunderCasks", "loudOf", "(I)I"⟩) ∈ lw_all := lw_g (lw_at lw_ms 5 rfl) rfl
theorem qs6 : (Cond.selects "ThunderCasks" ⟨"ThunderCasks", "goesOn", "(I)I"⟩ ⟨"ThunderCasks", "goesOn", "(I)I"⟩) ∈ lw_all := lw_g (lw_at lw_ms 6 rfl) rfl
theorem qs7 : (Cond.selects "ThunderCasks" ⟨"ThunderCasks", "passes", "(I)V"⟩ ⟨"ThunderCasks", "passes", "(I)V"⟩) ∈ lw_all := lw_g (lw_at lw_ms 7 rfl) rfl
theorem qs8 : (Cond.selects "ThunderCasks" ⟨"ThunderCasks", "passes", "()V"⟩ ⟨"ThunderCasks", "passes", "()V"⟩) ∈ lw_all := lw_g (lw_at lw_ms 8 rfl) rfl
theorem qs9 : (Cond.selects "ThunderCasks$World" ⟨"ThunderCasks$World", "areAlike", "(II)Z"⟩ ⟨"ThunderCasks$World", "areAlike", "(II)Z"⟩) ∈ lw_all := lw_g (lw_at lw_ms 9 rfl) rfl
theorem qs10 : (Cond.selects "ThunderCasks" ⟨"ThunderCasks", "nextToBurst", "()I"⟩ ⟨"ThunderCasks", "nextToBurst", "()I"⟩) ∈ lw_all := lw_g (lw_at lw_ms 10 rfl) rfl
theorem qs11 : (Cond.selects "ThunderCasks" ⟨"ThunderCasks", "isTooLoud", "(I)Z"⟩ ⟨"ThunderCasks", "isTooLoud", "(I)Z"⟩) ∈ lw_all := lw_g (lw_at lw_ms 11 rfl) rfl
theorem qs12 : (Cond.selects "ThunderCasks" ⟨"ThunderCasks", "blendOf", "(I)I"⟩ ⟨"ThunderCasks", "blendOf", "(I)I"⟩) ∈ lw_all := lw_g (lw_at lw_ms 12 rfl) rfl
theorem qs13 : (Cond.selects "ThunderCasks" ⟨"ThunderCasks", "tooLoud", "()I"⟩ ⟨"ThunderCasks", "tooLoud", "()I"⟩) ∈ lw_all := lw_g (lw_at lw_ms 13 rfl) rfl
theorem qs14 : (Cond.selects "ThunderCasks" ⟨"ThunderCasks", "loudest", "()I"⟩ ⟨"ThunderCasks", "loudest", "()I"⟩) ∈ lw_all := lw_g (lw_at lw_ms 14 rfl) rfl
theorem qs15 : (Cond.selects "ThunderCasks" ⟨"ThunderCasks", "toldBehind", "(III)I"⟩ ⟨"ThunderCasks", "toldBehind", "(III)I"⟩) ∈ lw_all := lw_g (lw_at lw_ms 15 rfl) rfl
theorem qs16 : (Cond.selects "ThunderCasks" ⟨"ThunderCasks", "toldOf", "(II)I"⟩ ⟨"ThunderCasks", "toldOf", "(II)I"⟩) ∈ lw_all := lw_g (lw_at lw_ms 16 rfl) rfl
theorem qs17 : (Cond.selects "ThunderCasks" ⟨"ThunderCasks", "clapsBehind", "(I)I"⟩ ⟨"ThunderCasks", "clapsBehind", "(I)I"⟩) ∈ lw_all := lw_g (lw_at lw_ms 17 rfl) rfl
theorem qs18 : (Cond.selects "ThunderCasks" ⟨"ThunderCasks", "burstBehind", "(I)I"⟩ ⟨"ThunderCasks", "burstBehind", "(I)I"⟩) ∈ lw_all := lw_g (lw_at lw_ms 18 rfl) rfl
theorem qs19 : (Cond.selects "ThunderCasks" ⟨"ThunderCasks", "orNone", "(I)I"⟩ ⟨"ThunderCasks", "orNone", "(I)I"⟩) ∈ lw_all := lw_g (lw_at lw_ms 19 rfl) rfl
theorem qs20 : (Cond.selects "ThunderCasks" ⟨"ThunderCasks", "loudBehind", "(II)I"⟩ ⟨"ThunderCasks", "loudBehind", "(II)I"⟩) ∈ lw_all := lw_g (lw_at lw_ms 20 rfl) rfl
theorem qs21 : (Cond.selects "ThunderCasks" ⟨"ThunderCasks", "burstOnes", "(I)I"⟩ ⟨"ThunderCasks", "burstOnes", "(I)I"⟩) ∈ lw_all := lw_g (lw_at lw_ms 21 rfl) rfl
theorem qs22 : (Cond.selects "ThunderCasks" ⟨"ThunderCasks", "areOne", "(II)Z"⟩ ⟨"ThunderCasks", "areOne", "(II)Z"⟩) ∈ lw_all := lw_g (lw_at lw_ms 22 rfl) rfl
theorem qs23 : (Cond.selects "ThunderCasks" ⟨"ThunderCasks", "mostBy", "(IIII)I"⟩ ⟨"ThunderCasks", "mostBy", "(IIII)I"⟩) ∈ lw_all := lw_g (lw_at lw_ms 23 rfl) rfl
theorem qs24 : (Cond.selects "ThunderCasks" ⟨"ThunderCasks", "leastHoops", "(II)I"⟩ ⟨"ThunderCasks", "leastHoops", "(II)I"⟩) ∈ lw_all := lw_g (lw_at lw_ms 24 rfl) rfl
theorem qs25 : (Cond.selects "ThunderCasks" ⟨"ThunderCasks", "greatestFrost", "(II)I"⟩ ⟨"ThunderCasks", "greatestFrost", "(II)I"⟩) ∈ lw_all := lw_g (lw_at lw_ms 25 rfl) rfl
theorem qs26 : (Cond.selects "ThunderCasks" ⟨"ThunderCasks", "fewestEmptied", "(I)I"⟩ ⟨"ThunderCasks", "fewestEmptied", "(I)I"⟩) ∈ lw_all := lw_g (lw_at lw_ms 26 rfl) rfl
theorem qs27 : (Cond.selects "ThunderCasks" ⟨"ThunderCasks", "clapsWithout", "(II)I"⟩ ⟨"ThunderCasks", "clapsWithout", "(II)I"⟩) ∈ lw_all := lw_g (lw_at lw_ms 27 rfl) rfl
theorem qs28 : (Cond.selects "ThunderCasks" ⟨"ThunderCasks", "fewestBlended", "(I)I"⟩ ⟨"ThunderCasks", "fewestBlended", "(I)I"⟩) ∈ lw_all := lw_g (lw_at lw_ms 28 rfl) rfl
theorem qs29 : (Cond.selects "ThunderCasks" ⟨"ThunderCasks", "manyBlends", "(II)I"⟩ ⟨"ThunderCasks", "manyBlends", "(II)I"⟩) ∈ lw_all := lw_g (lw_at lw_ms 29 rfl) rfl
theorem qs30 : (Cond.selects "ThunderCasks" ⟨"ThunderCasks", "rowFor", "(II)Ljava/lang/Object;"⟩ ⟨"ThunderCasks", "rowFor", "(II)Ljava/lang/Object;"⟩) ∈ lw_all := lw_g (lw_at lw_ms 30 rfl) rfl
theorem qs31 : (Cond.selects "ThunderCasks" ⟨"ThunderCasks", "rowAt", "(I)Ljava/lang/Object;"⟩ ⟨"ThunderCasks", "rowAt", "(I)Ljava/lang/Object;"⟩) ∈ lw_all := lw_g (lw_at lw_ms 31 rfl) rfl
theorem qs32 : (Cond.selects "ThunderCasks" ⟨"ThunderCasks", "need", "(ZI)V"⟩ ⟨"ThunderCasks", "need", "(ZI)V"⟩) ∈ lw_all := lw_g (lw_at lw_ms 32 rfl) rfl
theorem qs33 : (Cond.selects "ThunderCasks" ⟨"ThunderCasks", "refused", "(I)LThunderCasks$Refusal;"⟩ ⟨"ThunderCasks", "refused", "(I)LThunderCasks$Refusal;"⟩) ∈ lw_all := lw_g (lw_at lw_ms 33 rfl) rfl
theorem qs34 : (Cond.selects "ThunderCasks" ⟨"ThunderCasks", "manyFits", "(Ljava/lang/Object;I)I"⟩ ⟨"ThunderCasks", "manyFits", "(Ljava/lang/Object;I)I"⟩) ∈ lw_all := lw_g (lw_at lw_ms 34 rfl) rfl
theorem qs35 : (Cond.selects "ThunderCasks" ⟨"ThunderCasks", "wasSo", "(Ljava/lang/Object;I)Z"⟩ ⟨"ThunderCasks", "wasSo", "(Ljava/lang/Object;I)Z"⟩) ∈ lw_all := lw_g (lw_at lw_ms 35 rfl) rfl
theorem qs36 : (Cond.selects "ThunderCasks" ⟨"ThunderCasks", "kindsThatFit", "(Ljava/lang/Object;I)I"⟩ ⟨"ThunderCasks", "kindsThatFit", "(Ljava/lang/Object;I)I"⟩) ∈ lw_all := lw_g (lw_at lw_ms 36 rfl) rfl
theorem qs37 : (Cond.selects "ThunderCasks" ⟨"ThunderCasks", "stormed", "(I)I"⟩ ⟨"ThunderCasks", "stormed", "(I)I"⟩) ∈ lw_all := lw_g (lw_at lw_ms 37 rfl) rfl
theorem qs38 : (Cond.selects "ThunderCasks$Reader" ⟨"ThunderCasks$Reader", "next", "()V"⟩ ⟨"ThunderCasks$Reader", "next", "()V"⟩) ∈ lw_all := lw_g (lw_at lw_ms 38 rfl) rfl
theorem qs39 : (Cond.selects "ThunderCasks$Reader" ⟨"ThunderCasks$Reader", "byteAt", "(I)I"⟩ ⟨"ThunderCasks$Reader", "byteAt", "(I)I"⟩) ∈ lw_all := lw_g (lw_at lw_ms 39 rfl) rfl
theorem qs40 : (Cond.selects "ThunderCasks$Reader" ⟨"ThunderCasks$Reader", "word", "()V"⟩ ⟨"ThunderCasks$Reader", "word", "()V"⟩) ∈ lw_all := lw_g (lw_at lw_ms 40 rfl) rfl
theorem qs41 : (Cond.selects "ThunderCasks$Reader" ⟨"ThunderCasks$Reader", "isKey", "(II)Z"⟩ ⟨"ThunderCasks$Reader", "isKey", "(II)Z"⟩) ∈ lw_all := lw_g (lw_at lw_ms 41 rfl) rfl
theorem qs42 : (Cond.selects "ThunderCasks$Reader" ⟨"ThunderCasks$Reader", "need", "(Z)V"⟩ ⟨"ThunderCasks$Reader", "need", "(Z)V"⟩) ∈ lw_all := lw_g (lw_at lw_ms 42 rfl) rfl
theorem qs43 : (Cond.selects "ThunderCasks$Reader" ⟨"ThunderCasks$Reader", "digits", "()V"⟩ ⟨"ThunderCasks$Reader", "digits", "()V"⟩) ∈ lw_all := lw_g (lw_at lw_ms 43 rfl) rfl
theorem qs44 : (Cond.selects "ThunderCasks$Reader" ⟨"ThunderCasks$Reader", "item", "()V"⟩ ⟨"ThunderCasks$Reader", "item", "()V"⟩) ∈ lw_all := lw_g (lw_at lw_ms 44 rfl) rfl
theorem qs45 : (Cond.selects "ThunderCasks$Reader" ⟨"ThunderCasks$Reader", "storm", "()V"⟩ ⟨"ThunderCasks$Reader", "storm", "()V"⟩) ∈ lw_all := lw_g (lw_at lw_ms 45 rfl) rfl
theorem qs46 : (Cond.selects "ThunderCasks$Reader" ⟨"ThunderCasks$Reader", "behind", "(II)I"⟩ ⟨"ThunderCasks$Reader", "behind", "(II)I"⟩) ∈ lw_all := lw_g (lw_at lw_ms 46 rfl) rfl
theorem qs47 : (Cond.selects "ThunderCasks$Reader" ⟨"ThunderCasks$Reader", "number", "(II)I"⟩ ⟨"ThunderCasks$Reader", "number", "(II)I"⟩) ∈ lw_all := lw_g (lw_at lw_ms 47 rfl) rfl
theorem qs48 : (Cond.selects "ThunderCasks$Reader" ⟨"ThunderCasks$Reader", "frost", "()V"⟩ ⟨"ThunderCasks$Reader", "frost", "()V"⟩) ∈ lw_all := lw_g (lw_at lw_ms 48 rfl) rfl
theorem qs49 : (Cond.selects "ThunderCasks$Reader" ⟨"ThunderCasks$Reader", "cask", "(I)V"⟩ ⟨"ThunderCasks$Reader", "cask", "(I)V"⟩) ∈ lw_all := lw_g (lw_at lw_ms 49 rfl) rfl
theorem qs50 : (Cond.selects "ThunderCasks$Reader" ⟨"ThunderCasks$Reader", "isWord", "(I)Z"⟩ ⟨"ThunderCasks$Reader", "isWord", "(I)Z"⟩) ∈ lw_all := lw_g (lw_at lw_ms 50 rfl) rfl
theorem qs51 : (Cond.selects "ThunderCasks$Reader" ⟨"ThunderCasks$Reader", "perhaps", "(III)V"⟩ ⟨"ThunderCasks$Reader", "perhaps", "(III)V"⟩) ∈ lw_all := lw_g (lw_at lw_ms 51 rfl) rfl
theorem qs52 : (Cond.selects "ThunderCasks" ⟨"ThunderCasks", "thingAt", "(I)Ljava/lang/Object;"⟩ ⟨"ThunderCasks", "thingAt", "(I)Ljava/lang/Object;"⟩) ∈ lw_all := lw_g (lw_at lw_ms 52 rfl) rfl
theorem qs53 : (Cond.selects "ThunderCasks" ⟨"ThunderCasks", "loads", "(Ljava/lang/Object;)I"⟩ ⟨"ThunderCasks", "loads", "(Ljava/lang/Object;)I"⟩) ∈ lw_all := lw_g (lw_at lw_ms 53 rfl) rfl
theorem qs54 : (Cond.selects "ThunderCasks" ⟨"ThunderCasks", "holding", "()I"⟩ ⟨"ThunderCasks", "holding", "()I"⟩) ∈ lw_all := lw_g (lw_at lw_ms 54 rfl) rfl
theorem qs55 : (Cond.selects "ThunderCasksModel" ⟨"ThunderCasksModel", "becomes", "(II)I"⟩ ⟨"ThunderCasksModel", "becomes", "(II)I"⟩) ∈ lw_all := lw_g (lw_at lw_ms 55 rfl) rfl
theorem qs56 : (Cond.selects "ThunderCasksModel" ⟨"ThunderCasksModel", "finds", "(I)I"⟩ ⟨"ThunderCasksModel", "finds", "(I)I"⟩) ∈ lw_all := lw_g (lw_at lw_ms 56 rfl) rfl
theorem qs57 : (Cond.selects "ThunderCasksModel" ⟨"ThunderCasksModel", "there", "(I)I"⟩ ⟨"ThunderCasksModel", "there", "(I)I"⟩) ∈ lw_all := lw_g (lw_at lw_ms 57 rfl) rfl
theorem qs58 : (Cond.selects "ThunderCasksModel" ⟨"ThunderCasksModel", "its", "(II)I"⟩ ⟨"ThunderCasksModel", "its", "(II)I"⟩) ∈ lw_all := lw_g (lw_at lw_ms 58 rfl) rfl
theorem qs59 : (Cond.selects "ThunderCasksModel" ⟨"ThunderCasksModel", "emptiest", "(I)I"⟩ ⟨"ThunderCasksModel", "emptiest", "(I)I"⟩) ∈ lw_all := lw_g (lw_at lw_ms 59 rfl) rfl
theorem qs60 : (Cond.selects "ThunderCasksModel" ⟨"ThunderCasksModel", "comes", "(II)V"⟩ ⟨"ThunderCasksModel", "comes", "(II)V"⟩) ∈ lw_all := lw_g (lw_at lw_ms 60 rfl) rfl
theorem qs61 : (Cond.selects "ThunderCasksModel" ⟨"ThunderCasksModel", "isCask", "(I)Z"⟩ ⟨"ThunderCasksModel", "isCask", "(I)Z"⟩) ∈ lw_all := lw_g (lw_at lw_ms 61 rfl) rfl
theorem qs62 : (Cond.selects "ThunderCasksModel" ⟨"ThunderCasksModel", "loud", "(I)I"⟩ ⟨"ThunderCasksModel", "loud", "(I)I"⟩) ∈ lw_all := lw_g (lw_at lw_ms 62 rfl) rfl
theorem qs63 : (Cond.selects "ThunderCasksModel" ⟨"ThunderCasksModel", "leaks", "(I)I"⟩ ⟨"ThunderCasksModel", "leaks", "(I)I"⟩) ∈ lw_all := lw_g (lw_at lw_ms 63 rfl) rfl
theorem qs64 : (Cond.selects "ThunderCasksModel" ⟨"ThunderCasksModel", "bears", "(I)I"⟩ ⟨"ThunderCasksModel", "bears", "(I)I"⟩) ∈ lw_all := lw_g (lw_at lw_ms 64 rfl) rfl
theorem qs65 : (Cond.selects "ThunderCasksModel" ⟨"ThunderCasksModel", "goes", "(I)V"⟩ ⟨"ThunderCasksModel", "goes", "(I)V"⟩) ∈ lw_all := lw_g (lw_at lw_ms 65 rfl) rfl
theorem qs66 : (Cond.selects "ThunderCasksModel" ⟨"ThunderCasksModel", "day", "()V"⟩ ⟨"ThunderCasksModel", "day", "()V"⟩) ∈ lw_all := lw_g (lw_at lw_ms 66 rfl) rfl
theorem qs67 : (Cond.selects "ThunderCasksModel" ⟨"ThunderCasksModel", "more", "(II)V"⟩ ⟨"ThunderCasksModel", "more", "(II)V"⟩) ∈ lw_all := lw_g (lw_at lw_ms 67 rfl) rfl
theorem qs68 : (Cond.selects "ThunderCasksModel" ⟨"ThunderCasksModel", "cancel", "(II)V"⟩ ⟨"ThunderCasksModel", "cancel", "(II)V"⟩) ∈ lw_all := lw_g (lw_at lw_ms 68 rfl) rfl
theorem qs69 : (Cond.selects "ThunderCasksModel" ⟨"ThunderCasksModel", "strained", "()I"⟩ ⟨"ThunderCasksModel", "strained", "()I"⟩) ∈ lw_all := lw_g (lw_at lw_ms 69 rfl) rfl
theorem qs70 : (Cond.selects "ThunderCasksModel" ⟨"ThunderCasksModel", "burst", "(I)V"⟩ ⟨"ThunderCasksModel", "burst", "(I)V"⟩) ∈ lw_all := lw_g (lw_at lw_ms 70 rfl) rfl
theorem qs71 : (Cond.selects "ThunderCasksModel" ⟨"ThunderCasksModel", "sumOf", "(I)I"⟩ ⟨"ThunderCasksModel", "sumOf", "(I)I"⟩) ∈ lw_all := lw_g (lw_at lw_ms 71 rfl) rfl
theorem qs72 : (Cond.selects "ThunderCasksModel" ⟨"ThunderCasksModel", "strainedOnes", "()I"⟩ ⟨"ThunderCasksModel", "strainedOnes", "()I"⟩) ∈ lw_all := lw_g (lw_at lw_ms 72 rfl) rfl
theorem qs73 : (Cond.selects "ThunderCasksModel" ⟨"ThunderCasksModel", "loudest", "()I"⟩ ⟨"ThunderCasksModel", "loudest", "()I"⟩) ∈ lw_all := lw_g (lw_at lw_ms 73 rfl) rfl
theorem qs74 : (Cond.selects "ThunderCasksModel" ⟨"ThunderCasksModel", "usedOnes", "()I"⟩ ⟨"ThunderCasksModel", "usedOnes", "()I"⟩) ∈ lw_all := lw_g (lw_at lw_ms 74 rfl) rfl
theorem qs75 : (Cond.selects "ThunderCasksModel" ⟨"ThunderCasksModel", "then", "(III)I"⟩ ⟨"ThunderCasksModel", "then", "(III)I"⟩) ∈ lw_all := lw_g (lw_at lw_ms 75 rfl) rfl
theorem qs76 : (Cond.selects "ThunderCasksModel" ⟨"ThunderCasksModel", "clapsThen", "(I)I"⟩ ⟨"ThunderCasksModel", "clapsThen", "(I)I"⟩) ∈ lw_all := lw_g (lw_at lw_ms 76 rfl) rfl
theorem qs77 : (Cond.selects "ThunderCasksModel" ⟨"ThunderCasksModel", "isAsked", "(II)Z"⟩ ⟨"ThunderCasksModel", "isAsked", "(II)Z"⟩) ∈ lw_all := lw_g (lw_at lw_ms 77 rfl) rfl
theorem qs78 : (Cond.selects "ThunderCasksModel" ⟨"ThunderCasksModel", "loudestBy", "(III)I"⟩ ⟨"ThunderCasksModel", "loudestBy", "(III)I"⟩) ∈ lw_all := lw_g (lw_at lw_ms 78 rfl) rfl
theorem qs79 : (Cond.selects "ThunderCasksModel" ⟨"ThunderCasksModel", "orNone", "(I)I"⟩ ⟨"ThunderCasksModel", "orNone", "(I)I"⟩) ∈ lw_all := lw_g (lw_at lw_ms 79 rfl) rfl
theorem qs80 : (Cond.selects "ThunderCasksModel" ⟨"ThunderCasksModel", "blendOf", "(I)I"⟩ ⟨"ThunderCasksModel", "blendOf", "(I)I"⟩) ∈ lw_all := lw_g (lw_at lw_ms 80 rfl) rfl
theorem qs81 : (Cond.selects "ThunderCasksModel" ⟨"ThunderCasksModel", "wantsFor", "(II)I"⟩ ⟨"ThunderCasksModel", "wantsFor", "(II)I"⟩) ∈ lw_all := lw_g (lw_at lw_ms 81 rfl) rfl
theorem qs82 : (Cond.selects "ThunderCasksModel" ⟨"ThunderCasksModel", "wants", "(I)I"⟩ ⟨"ThunderCasksModel", "wants", "(I)I"⟩) ∈ lw_all := lw_g (lw_at lw_ms 82 rfl) rfl
theorem qs83 : (Cond.selects "ThunderCasksModel" ⟨"ThunderCasksModel", "findsFits", "(II)V"⟩ ⟨"ThunderCasksModel", "findsFits", "(II)V"⟩) ∈ lw_all := lw_g (lw_at lw_ms 83 rfl) rfl
theorem qs84 : (Cond.selects "ThunderCasksModel" ⟨"ThunderCasksModel", "isTold", "(II)Z"⟩ ⟨"ThunderCasksModel", "isTold", "(II)Z"⟩) ∈ lw_all := lw_g (lw_at lw_ms 84 rfl) rfl
theorem qs85 : (Cond.selects "ThunderCasksModel" ⟨"ThunderCasksModel", "draw", "()I"⟩ ⟨"ThunderCasksModel", "draw", "()I"⟩) ∈ lw_all := lw_g (lw_at lw_ms 85 rfl) rfl
theorem qs86 : (Cond.selects "ThunderCasksModel" ⟨"ThunderCasksModel", "nextToken", "()V"⟩ ⟨"ThunderCasksModel", "nextToken", "()V"⟩) ∈ lw_all := lw_g (lw_at lw_ms 86 rfl) rfl
theorem qs87 : (Cond.selects "ThunderCasksModel" ⟨"ThunderCasksModel", "byteAt", "(I)I"⟩ ⟨"ThunderCasksModel", "byteAt", "(I)I"⟩) ∈ lw_all := lw_g (lw_at lw_ms 87 rfl) rfl
theorem qs88 : (Cond.selects "ThunderCasksModel" ⟨"ThunderCasksModel", "itemHere", "()Z"⟩ ⟨"ThunderCasksModel", "itemHere", "()Z"⟩) ∈ lw_all := lw_g (lw_at lw_ms 88 rfl) rfl
theorem qs89 : (Cond.selects "ThunderCasksModel" ⟨"ThunderCasksModel", "kindHere", "()I"⟩ ⟨"ThunderCasksModel", "kindHere", "()I"⟩) ∈ lw_all := lw_g (lw_at lw_ms 89 rfl) rfl
theorem qs90 : (Cond.selects "ThunderCasksModel" ⟨"ThunderCasksModel", "isFour", "(IIII)Z"⟩ ⟨"ThunderCasksModel", "isFour", "(IIII)Z"⟩) ∈ lw_all := lw_g (lw_at lw_ms 90 rfl) rfl
theorem qs91 : (Cond.selects "ThunderCasksModel" ⟨"ThunderCasksModel", "isWord", "(I)Z"⟩ ⟨"ThunderCasksModel", "isWord", "(I)Z"⟩) ∈ lw_all := lw_g (lw_at lw_ms 91 rfl) rfl
theorem qs92 : (Cond.selects "ThunderCasksModel" ⟨"ThunderCasksModel", "has3", "(IIII)Z"⟩ ⟨"ThunderCasksModel", "has3", "(IIII)Z"⟩) ∈ lw_all := lw_g (lw_at lw_ms 92 rfl) rfl
theorem qs93 : (Cond.selects "ThunderCasksModel" ⟨"ThunderCasksModel", "isFive", "(IIIII)Z"⟩ ⟨"ThunderCasksModel", "isFive", "(IIIII)Z"⟩) ∈ lw_all := lw_g (lw_at lw_ms 93 rfl) rfl
theorem qs94 : (Cond.selects "ThunderCasksModel" ⟨"ThunderCasksModel", "isSix", "(IIIIII)Z"⟩ ⟨"ThunderCasksModel", "isSix", "(IIIIII)Z"⟩) ∈ lw_all := lw_g (lw_at lw_ms 94 rfl) rfl
theorem qs95 : (Cond.selects "ThunderCasksModel" ⟨"ThunderCasksModel", "caskHere", "(I)Z"⟩ ⟨"ThunderCasksModel", "caskHere", "(I)Z"⟩) ∈ lw_all := lw_g (lw_at lw_ms 95 rfl) rfl
theorem qs96 : (Cond.selects "ThunderCasksModel" ⟨"ThunderCasksModel", "fails", "()Z"⟩ ⟨"ThunderCasksModel", "fails", "()Z"⟩) ∈ lw_all := lw_g (lw_at lw_ms 96 rfl) rfl
theorem qs97 : (Cond.selects "ThunderCasksModel" ⟨"ThunderCasksModel", "perhaps", "(ZII)Z"⟩ ⟨"ThunderCasksModel", "perhaps", "(ZII)Z"⟩) ∈ lw_all := lw_g (lw_at lw_ms 97 rfl) rfl
theorem qs98 : (Cond.selects "ThunderCasksModel" ⟨"ThunderCasksModel", "isNumber", "(II)Z"⟩ ⟨"ThunderCasksModel", "isNumber", "(II)Z"⟩) ∈ lw_all := lw_g (lw_at lw_ms 98 rfl) rfl
theorem qs99 : (Cond.selects "ThunderCasksModel" ⟨"ThunderCasksModel", "cellarHere", "(II)Z"⟩ ⟨"ThunderCasksModel", "cellarHere", "(II)Z"⟩) ∈ lw_all := lw_g (lw_at lw_ms 99 rfl) rfl
