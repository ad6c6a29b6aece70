-- ===== PART A: goes FIRST, ahead of the names: the tables' words, and 'selects' of the private methods out of them =====
/-- a private method of a class that the tables say can be made, by its rows of tables_1 -/
def lw_okq (q : MethodName × Nat) : Prop := (q.1.cls ≠ "java/lang/invoke/MethodHandle" ∧ q.1.cls ≠ "java/lang/invoke/VarHandle") ∧ Cond.instantiable q.1.cls q.2 ∈ tables_1 ∧ Cond.privateMethod q.1 ∈ tables_1 ∧ Cond.instanceMethod q.1 ∈ tables_1
set_option maxRecDepth 100000
theorem lw_t1 {w : Cond} (h : w ∈ tables_1_1) : w ∈ tables_1 := List.mem_append_left _ h
theorem lw_t2 {w : Cond} (h : w ∈ tables_1_2) : w ∈ tables_1 := List.mem_append_right _ (List.mem_append_left _ h)
theorem lw_t3 {w : Cond} (h : w ∈ tables_1_3) : w ∈ tables_1 := List.mem_append_right _ (List.mem_append_right _ (List.mem_append_left _ h))
theorem lw_t4 {w : Cond} (h : w ∈ tables_1_4) : w ∈ tables_1 := List.mem_append_right _ (List.mem_append_right _ (List.mem_append_right _ (List.mem_append_left _ h)))
theorem lw_t5 {w : Cond} (h : w ∈ tables_1_5) : w ∈ tables_1 := List.mem_append_right _ (List.mem_append_right _ (List.mem_append_right _ (List.mem_append_right _ h)))
theorem lw_p0 : lw_okq (⟨"BurntLetters$Reader", "digit", "(II)I"⟩, 4) := ⟨⟨by decide +kernel, by decide +kernel⟩, lw_t1 (List.mem_of_getElem? (i := 169) rfl), lw_t1 (List.mem_of_getElem? (i := 194) rfl), lw_t1 (List.mem_of_getElem? (i := 195) rfl)⟩
theorem lw_p1 : lw_okq (⟨"BurntLetters$Reader", "next", "()I"⟩, 4) := ⟨⟨by decide +kernel, by decide +kernel⟩, lw_t1 (List.mem_of_getElem? (i := 169) rfl), lw_t1 (List.mem_of_getElem? (i := 198) rfl), lw_t1 (List.mem_of_getElem? (i := 199) rfl)⟩
theorem lw_p2 : lw_okq (⟨"BurntLetters$Reader", "want", "(Z)V"⟩, 4) := ⟨⟨by decide +kernel, by decide +kernel⟩, lw_t1 (List.mem_of_getElem? (i := 169) rfl), lw_t1 (List.mem_of_getElem? (i := 206) rfl), lw_t1 (List.mem_of_getElem? (i := 207) rfl)⟩
theorem lw_p3 : lw_okq (⟨"java/lang/Throwable", "fillInStackTrace", "(I)Ljava/lang/Throwable;"⟩, 6) := ⟨⟨by decide +kernel, by decide +kernel⟩, lw_t2 (List.mem_of_getElem? (i := 4) rfl), lw_t2 (List.mem_of_getElem? (i := 2) rfl), lw_t2 (List.mem_of_getElem? (i := 3) rfl)⟩
theorem lw_p4 : lw_okq (⟨"BurntLetters$Reader", "takes", "(C)Z"⟩, 4) := ⟨⟨by decide +kernel, by decide +kernel⟩, lw_t1 (List.mem_of_getElem? (i := 169) rfl), lw_t2 (List.mem_of_getElem? (i := 33) rfl), lw_t2 (List.mem_of_getElem? (i := 34) rfl)⟩
theorem lw_p5 : lw_okq (⟨"java/util/ArrayList", "add", "(Ljava/lang/Object;[Ljava/lang/Object;I)V"⟩, 3) := ⟨⟨by decide +kernel, by decide +kernel⟩, lw_t1 (List.mem_of_getElem? (i := 32) rfl), lw_t2 (List.mem_of_getElem? (i := 107) rfl), lw_t2 (List.mem_of_getElem? (i := 108) rfl)⟩
theorem lw_p6 : lw_okq (⟨"java/util/ArrayList", "grow", "()[Ljava/lang/Object;"⟩, 3) := ⟨⟨by decide +kernel, by decide +kernel⟩, lw_t1 (List.mem_of_getElem? (i := 32) rfl), lw_t2 (List.mem_of_getElem? (i := 111) rfl), lw_t2 (List.mem_of_getElem? (i := 112) rfl)⟩
theorem lw_p7 : lw_okq (⟨"java/util/ArrayList", "grow", "(I)[Ljava/lang/Object;"⟩, 3) := ⟨⟨by decide +kernel, by decide +kernel⟩, lw_t1 (List.mem_of_getElem? (i := 32) rfl), lw_t2 (List.mem_of_getElem? (i := 115) rfl), lw_t2 (List.mem_of_getElem? (i := 116) rfl)⟩
theorem lw_p8 : lw_okq (⟨"BurntLetters", "isFile", "(I)Z"⟩, 22) := ⟨⟨by decide +kernel, by decide +kernel⟩, lw_t1 (List.mem_of_getElem? (i := 24) rfl), lw_t2 (List.mem_of_getElem? (i := 163) rfl), lw_t2 (List.mem_of_getElem? (i := 164) rfl)⟩
theorem lw_p9 : lw_okq (⟨"BurntLetters", "told", "(II)I"⟩, 22) := ⟨⟨by decide +kernel, by decide +kernel⟩, lw_t1 (List.mem_of_getElem? (i := 24) rfl), lw_t2 (List.mem_of_getElem? (i := 167) rfl), lw_t2 (List.mem_of_getElem? (i := 168) rfl)⟩
theorem lw_p10 : lw_okq (⟨"BurntLetters$Archive", "isPointedTo", "(II)Z"⟩, 4) := ⟨⟨by decide +kernel, by decide +kernel⟩, lw_t1 (List.mem_of_getElem? (i := 58) rfl), lw_t3 (List.mem_of_getElem? (i := 55) rfl), lw_t3 (List.mem_of_getElem? (i := 56) rfl)⟩
theorem lw_p11 : lw_okq (⟨"BurntLetters$Archive", "spread", "(I)V"⟩, 4) := ⟨⟨by decide +kernel, by decide +kernel⟩, lw_t1 (List.mem_of_getElem? (i := 58) rfl), lw_t3 (List.mem_of_getElem? (i := 97) rfl), lw_t3 (List.mem_of_getElem? (i := 98) rfl)⟩
theorem lw_p12 : lw_okq (⟨"BurntLetters", "oddsOf", "(III)I"⟩, 22) := ⟨⟨by decide +kernel, by decide +kernel⟩, lw_t1 (List.mem_of_getElem? (i := 24) rfl), lw_t3 (List.mem_of_getElem? (i := 106) rfl), lw_t3 (List.mem_of_getElem? (i := 107) rfl)⟩
theorem lw_p13 : lw_okq (⟨"BurntLetters", "livesIn", "(III)I"⟩, 22) := ⟨⟨by decide +kernel, by decide +kernel⟩, lw_t1 (List.mem_of_getElem? (i := 24) rfl), lw_t3 (List.mem_of_getElem? (i := 110) rfl), lw_t3 (List.mem_of_getElem? (i := 111) rfl)⟩
theorem lw_p14 : lw_okq (⟨"BurntLetters", "whereOf", "(II)I"⟩, 22) := ⟨⟨by decide +kernel, by decide +kernel⟩, lw_t1 (List.mem_of_getElem? (i := 24) rfl), lw_t3 (List.mem_of_getElem? (i := 128) rfl), lw_t3 (List.mem_of_getElem? (i := 129) rfl)⟩
theorem lw_p15 : lw_okq (⟨"BurntLetters", "sureTold", "(III)I"⟩, 22) := ⟨⟨by decide +kernel, by decide +kernel⟩, lw_t1 (List.mem_of_getElem? (i := 24) rfl), lw_t3 (List.mem_of_getElem? (i := 137) rfl), lw_t3 (List.mem_of_getElem? (i := 138) rfl)⟩
def lw_privs_1 : List (MethodName × Nat) := [(⟨"BurntLetters$Reader", "digit", "(II)I"⟩, 4), (⟨"BurntLetters$Reader", "next", "()I"⟩, 4), (⟨"BurntLetters$Reader", "want", "(Z)V"⟩, 4), (⟨"java/lang/Throwable", "fillInStackTrace", "(I)Ljava/lang/Throwable;"⟩, 6), (⟨"BurntLetters$Reader", "takes", "(C)Z"⟩, 4), (⟨"java/util/ArrayList", "add", "(Ljava/lang/Object;[Ljava/lang/Object;I)V"⟩, 3), (⟨"java/util/ArrayList", "grow", "()[Ljava/lang/Object;"⟩, 3), (⟨"java/util/ArrayList", "grow", "(I)[Ljava/lang/Object;"⟩, 3), (⟨"BurntLetters", "isFile", "(I)Z"⟩, 22), (⟨"BurntLetters", "told", "(II)I"⟩, 22), (⟨"BurntLetters$Archive", "isPointedTo", "(II)Z"⟩, 4), (⟨"BurntLetters$Archive", "spread", "(I)V"⟩, 4), (⟨"BurntLetters", "oddsOf", "(III)I"⟩, 22), (⟨"BurntLetters", "livesIn", "(III)I"⟩, 22), (⟨"BurntLetters", "whereOf", "(II)I"⟩, 22), (⟨"BurntLetters", "sureTold", "(III)I"⟩, 22)]
theorem lw_r1 : ∀ q ∈ lw_privs_1, lw_okq q := List.forall_mem_cons.mpr ⟨lw_p0, List.forall_mem_cons.mpr ⟨lw_p1, List.forall_mem_cons.mpr ⟨lw_p2, List.forall_mem_cons.mpr ⟨lw_p3, List.forall_mem_cons.mpr ⟨lw_p4, List.forall_mem_cons.mpr ⟨lw_p5, List.forall_mem_cons.mpr ⟨lw_p6, List.forall_mem_cons.mpr ⟨lw_p7, List.forall_mem_cons.mpr ⟨lw_p8, List.forall_mem_cons.mpr ⟨lw_p9, List.forall_mem_cons.mpr ⟨lw_p10, List.forall_mem_cons.mpr ⟨lw_p11, List.forall_mem_cons.mpr ⟨lw_p12, List.forall_mem_cons.mpr ⟨lw_p13, List.forall_mem_cons.mpr ⟨lw_p14, List.forall_mem_cons.mpr ⟨lw_p15, fun _ h => absurd h List.not_mem_nil⟩⟩⟩⟩⟩⟩⟩⟩⟩⟩⟩⟩⟩⟩⟩⟩
theorem lw_p16 : lw_okq (⟨"BurntLetters", "isSure", "(LBurntLetters$Paper;II)Z"⟩, 22) := ⟨⟨by decide +kernel, by decide +kernel⟩, lw_t1 (List.mem_of_getElem? (i := 24) rfl), lw_t3 (List.mem_of_getElem? (i := 141) rfl), lw_t3 (List.mem_of_getElem? (i := 142) rfl)⟩
theorem lw_p17 : lw_okq (⟨"BurntLetters", "nowhereNow", "()I"⟩, 22) := ⟨⟨by decide +kernel, by decide +kernel⟩, lw_t1 (List.mem_of_getElem? (i := 24) rfl), lw_t3 (List.mem_of_getElem? (i := 150) rfl), lw_t3 (List.mem_of_getElem? (i := 151) rfl)⟩
theorem lw_p18 : lw_okq (⟨"BurntLetters", "movingTold", "(I)I"⟩, 22) := ⟨⟨by decide +kernel, by decide +kernel⟩, lw_t1 (List.mem_of_getElem? (i := 24) rfl), lw_t3 (List.mem_of_getElem? (i := 158) rfl), lw_t3 (List.mem_of_getElem? (i := 159) rfl)⟩
theorem lw_p19 : lw_okq (⟨"BurntLetters", "isEnough", "(II)Z"⟩, 22) := ⟨⟨by decide +kernel, by decide +kernel⟩, lw_t1 (List.mem_of_getElem? (i := 24) rfl), lw_t3 (List.mem_of_getElem? (i := 163) rfl), lw_t3 (List.mem_of_getElem? (i := 164) rfl)⟩
theorem lw_p20 : lw_okq (⟨"BurntLetters", "above", "(I)I"⟩, 22) := ⟨⟨by decide +kernel, by decide +kernel⟩, lw_t1 (List.mem_of_getElem? (i := 24) rfl), lw_t3 (List.mem_of_getElem? (i := 167) rfl), lw_t3 (List.mem_of_getElem? (i := 168) rfl)⟩
theorem lw_p21 : lw_okq (⟨"BurntLetters", "layFits", "()I"⟩, 22) := ⟨⟨by decide +kernel, by decide +kernel⟩, lw_t1 (List.mem_of_getElem? (i := 24) rfl), lw_t3 (List.mem_of_getElem? (i := 183) rfl), lw_t3 (List.mem_of_getElem? (i := 184) rfl)⟩
theorem lw_p22 : lw_okq (⟨"BurntLetters", "isSo", "(I)Z"⟩, 22) := ⟨⟨by decide +kernel, by decide +kernel⟩, lw_t1 (List.mem_of_getElem? (i := 24) rfl), lw_t3 (List.mem_of_getElem? (i := 187) rfl), lw_t3 (List.mem_of_getElem? (i := 188) rfl)⟩
theorem lw_p23 : lw_okq (⟨"BurntLetters", "burntOf", "(I)I"⟩, 22) := ⟨⟨by decide +kernel, by decide +kernel⟩, lw_t1 (List.mem_of_getElem? (i := 24) rfl), lw_t3 (List.mem_of_getElem? (i := 196) rfl), lw_t3 (List.mem_of_getElem? (i := 197) rfl)⟩
theorem lw_p24 : lw_okq (⟨"BurntLetters", "yearsTold", "(III)I"⟩, 22) := ⟨⟨by decide +kernel, by decide +kernel⟩, lw_t1 (List.mem_of_getElem? (i := 24) rfl), lw_t3 (List.mem_of_getElem? (i := 208) rfl), lw_t3 (List.mem_of_getElem? (i := 209) rfl)⟩
theorem lw_p25 : lw_okq (⟨"BurntLetters", "draw", "(I)I"⟩, 22) := ⟨⟨by decide +kernel, by decide +kernel⟩, lw_t1 (List.mem_of_getElem? (i := 24) rfl), lw_t3 (List.mem_of_getElem? (i := 212) rfl), lw_t3 (List.mem_of_getElem? (i := 213) rfl)⟩
theorem lw_p26 : lw_okq (⟨"BurntLetters", "letterBy", "(I)I"⟩, 22) := ⟨⟨by decide +kernel, by decide +kernel⟩, lw_t1 (List.mem_of_getElem? (i := 24) rfl), lw_t3 (List.mem_of_getElem? (i := 220) rfl), lw_t3 (List.mem_of_getElem? (i := 221) rfl)⟩
theorem lw_p27 : lw_okq (⟨"java/util/ArrayList", "fastRemove", "([Ljava/lang/Object;I)V"⟩, 3) := ⟨⟨by decide +kernel, by decide +kernel⟩, lw_t1 (List.mem_of_getElem? (i := 32) rfl), lw_t3 (List.mem_of_getElem? (i := 236) rfl), lw_t3 (List.mem_of_getElem? (i := 237) rfl)⟩
theorem lw_p28 : lw_okq (⟨"BurntLetters", "countOf", "(I)I"⟩, 22) := ⟨⟨by decide +kernel, by decide +kernel⟩, lw_t1 (List.mem_of_getElem? (i := 24) rfl), lw_t4 (List.mem_of_getElem? (i := 5) rfl), lw_t4 (List.mem_of_getElem? (i := 6) rfl)⟩
theorem lw_p29 : lw_okq (⟨"BurntLetters", "mixedFile", "(JI)J"⟩, 22) := ⟨⟨by decide +kernel, by decide +kernel⟩, lw_t1 (List.mem_of_getElem? (i := 24) rfl), lw_t4 (List.mem_of_getElem? (i := 18) rfl), lw_t4 (List.mem_of_getElem? (i := 19) rfl)⟩
theorem lw_p30 : lw_okq (⟨"BurntLettersModel", "faultOf", "()I"⟩, 29) := ⟨⟨by decide +kernel, by decide +kernel⟩, lw_t4 (List.mem_of_getElem? (i := 22) rfl), lw_t4 (List.mem_of_getElem? (i := 132) rfl), lw_t4 (List.mem_of_getElem? (i := 133) rfl)⟩
theorem lw_p31 : lw_okq (⟨"BurntLettersModel", "tellUnder", "(II)I"⟩, 29) := ⟨⟨by decide +kernel, by decide +kernel⟩, lw_t4 (List.mem_of_getElem? (i := 22) rfl), lw_t4 (List.mem_of_getElem? (i := 152) rfl), lw_t4 (List.mem_of_getElem? (i := 153) rfl)⟩
def lw_privs_2 : List (MethodName × Nat) := [(⟨"BurntLetters", "isSure", "(LBurntLetters$Paper;II)Z"⟩, 22), (⟨"BurntLetters", "nowhereNow", "()I"⟩, 22), (⟨"BurntLetters", "movingTold", "(I)I"⟩, 22), (⟨"BurntLetters", "isEnough", "(II)Z"⟩, 22), (⟨"BurntLetters", "above", "(I)I"⟩, 22), (⟨"BurntLetters", "layFits", "()I"⟩, 22), (⟨"BurntLetters", "isSo", "(I)Z"⟩, 22), (⟨"BurntLetters", "burntOf", "(I)I"⟩, 22), (⟨"BurntLetters", "yearsTold", "(III)I"⟩, 22), (⟨"BurntLetters", "draw", "(I)I"⟩, 22), (⟨"BurntLetters", "letterBy", "(I)I"⟩, 22), (⟨"java/util/ArrayList", "fastRemove", "([Ljava/lang/Object;I)V"⟩, 3), (⟨"BurntLetters", "countOf", "(I)I"⟩, 22), (⟨"BurntLetters", "mixedFile", "(JI)J"⟩, 22), (⟨"BurntLettersModel", "faultOf", "()I"⟩, 29), (⟨"BurntLettersModel", "tellUnder", "(II)I"⟩, 29)]
theorem lw_r2 : ∀ q ∈ lw_privs_2, lw_okq q := List.forall_mem_cons.mpr ⟨lw_p16, List.forall_mem_cons.mpr ⟨lw_p17, List.forall_mem_cons.mpr ⟨lw_p18, List.forall_mem_cons.mpr ⟨lw_p19, List.forall_mem_cons.mpr ⟨lw_p20, List.forall_mem_cons.mpr ⟨lw_p21, List.forall_mem_cons.mpr ⟨lw_p22, List.forall_mem_cons.mpr ⟨lw_p23, List.forall_mem_cons.mpr ⟨lw_p24, List.forall_mem_cons.mpr ⟨lw_p25, List.forall_mem_cons.mpr ⟨lw_p26, List.forall_mem_cons.mpr ⟨lw_p27, List.forall_mem_cons.mpr ⟨lw_p28, List.forall_mem_cons.mpr ⟨lw_p29, List.forall_mem_cons.mpr ⟨lw_p30, List.forall_mem_cons.mpr ⟨lw_p31, fun _ h => absurd h List.not_mem_nil⟩⟩⟩⟩⟩⟩⟩⟩⟩⟩⟩⟩⟩⟩⟩⟩
theorem lw_p32 : lw_okq (⟨"BurntLettersModel", "fullness", "([II)I"⟩, 29) := ⟨⟨by decide +kernel, by decide +kernel⟩, lw_t4 (List.mem_of_getElem? (i := 22) rfl), lw_t4 (List.mem_of_getElem? (i := 156) rfl), lw_t4 (List.mem_of_getElem? (i := 157) rfl)⟩
theorem lw_p33 : lw_okq (⟨"BurntLettersModel", "lacks", "()Z"⟩, 29) := ⟨⟨by decide +kernel, by decide +kernel⟩, lw_t4 (List.mem_of_getElem? (i := 22) rfl), lw_t4 (List.mem_of_getElem? (i := 165) rfl), lw_t4 (List.mem_of_getElem? (i := 166) rfl)⟩
theorem lw_p34 : lw_okq (⟨"BurntLettersModel", "isFile", "(I)Z"⟩, 29) := ⟨⟨by decide +kernel, by decide +kernel⟩, lw_t4 (List.mem_of_getElem? (i := 22) rfl), lw_t4 (List.mem_of_getElem? (i := 173) rfl), lw_t4 (List.mem_of_getElem? (i := 174) rfl)⟩
theorem lw_p35 : lw_okq (⟨"BurntLettersModel", "tell", "(II)I"⟩, 29) := ⟨⟨by decide +kernel, by decide +kernel⟩, lw_t4 (List.mem_of_getElem? (i := 22) rfl), lw_t4 (List.mem_of_getElem? (i := 177) rfl), lw_t4 (List.mem_of_getElem? (i := 178) rfl)⟩
theorem lw_p36 : lw_okq (⟨"BurntLettersModel", "namesOf", "(I)I"⟩, 29) := ⟨⟨by decide +kernel, by decide +kernel⟩, lw_t4 (List.mem_of_getElem? (i := 22) rfl), lw_t4 (List.mem_of_getElem? (i := 181) rfl), lw_t4 (List.mem_of_getElem? (i := 182) rfl)⟩
theorem lw_p37 : lw_okq (⟨"BurntLettersModel", "mayCopy", "(II)Z"⟩, 29) := ⟨⟨by decide +kernel, by decide +kernel⟩, lw_t4 (List.mem_of_getElem? (i := 22) rfl), lw_t4 (List.mem_of_getElem? (i := 193) rfl), lw_t4 (List.mem_of_getElem? (i := 194) rfl)⟩
theorem lw_p38 : lw_okq (⟨"BurntLettersModel", "mayRename", "([IIII)Z"⟩, 29) := ⟨⟨by decide +kernel, by decide +kernel⟩, lw_t4 (List.mem_of_getElem? (i := 22) rfl), lw_t4 (List.mem_of_getElem? (i := 204) rfl), lw_t4 (List.mem_of_getElem? (i := 205) rfl)⟩
theorem lw_p39 : lw_okq (⟨"BurntLettersModel", "asItIs", "()V"⟩, 29) := ⟨⟨by decide +kernel, by decide +kernel⟩, lw_t4 (List.mem_of_getElem? (i := 22) rfl), lw_t4 (List.mem_of_getElem? (i := 216) rfl), lw_t4 (List.mem_of_getElem? (i := 217) rfl)⟩
theorem lw_p40 : lw_okq (⟨"BurntLettersModel", "pass", "(I)I"⟩, 29) := ⟨⟨by decide +kernel, by decide +kernel⟩, lw_t4 (List.mem_of_getElem? (i := 22) rfl), lw_t4 (List.mem_of_getElem? (i := 220) rfl), lw_t4 (List.mem_of_getElem? (i := 221) rfl)⟩
theorem lw_p41 : lw_okq (⟨"BurntLettersModel", "burnsOf", "(II)I"⟩, 29) := ⟨⟨by decide +kernel, by decide +kernel⟩, lw_t4 (List.mem_of_getElem? (i := 22) rfl), lw_t4 (List.mem_of_getElem? (i := 224) rfl), lw_t4 (List.mem_of_getElem? (i := 225) rfl)⟩
theorem lw_p42 : lw_okq (⟨"BurntLettersModel", "isPointedAt", "(I)Z"⟩, 29) := ⟨⟨by decide +kernel, by decide +kernel⟩, lw_t4 (List.mem_of_getElem? (i := 22) rfl), lw_t4 (List.mem_of_getElem? (i := 228) rfl), lw_t4 (List.mem_of_getElem? (i := 229) rfl)⟩
theorem lw_p43 : lw_okq (⟨"BurntLettersModel", "spread", "(I)V"⟩, 29) := ⟨⟨by decide +kernel, by decide +kernel⟩, lw_t4 (List.mem_of_getElem? (i := 22) rfl), lw_t4 (List.mem_of_getElem? (i := 232) rfl), lw_t4 (List.mem_of_getElem? (i := 233) rfl)⟩
theorem lw_p44 : lw_okq (⟨"BurntLettersModel", "oddsOf", "(III)I"⟩, 29) := ⟨⟨by decide +kernel, by decide +kernel⟩, lw_t4 (List.mem_of_getElem? (i := 22) rfl), lw_t5 (List.mem_of_getElem? (i := 0) rfl), lw_t5 (List.mem_of_getElem? (i := 1) rfl)⟩
theorem lw_p45 : lw_okq (⟨"BurntLettersModel", "livesOf", "(II)I"⟩, 29) := ⟨⟨by decide +kernel, by decide +kernel⟩, lw_t4 (List.mem_of_getElem? (i := 22) rfl), lw_t5 (List.mem_of_getElem? (i := 4) rfl), lw_t5 (List.mem_of_getElem? (i := 5) rfl)⟩
theorem lw_p46 : lw_okq (⟨"BurntLettersModel", "whereOf", "(II)I"⟩, 29) := ⟨⟨by decide +kernel, by decide +kernel⟩, lw_t4 (List.mem_of_getElem? (i := 22) rfl), lw_t5 (List.mem_of_getElem? (i := 18) rfl), lw_t5 (List.mem_of_getElem? (i := 19) rfl)⟩
theorem lw_p47 : lw_okq (⟨"BurntLettersModel", "isSure", "(IZI)Z"⟩, 29) := ⟨⟨by decide +kernel, by decide +kernel⟩, lw_t4 (List.mem_of_getElem? (i := 22) rfl), lw_t5 (List.mem_of_getElem? (i := 26) rfl), lw_t5 (List.mem_of_getElem? (i := 27) rfl)⟩
def lw_privs_3 : List (MethodName × Nat) := [(⟨"BurntLettersModel", "fullness", "([II)I"⟩, 29), (⟨"BurntLettersModel", "lacks", "()Z"⟩, 29), (⟨"BurntLettersModel", "isFile", "(I)Z"⟩, 29), (⟨"BurntLettersModel", "tell", "(II)I"⟩, 29), (⟨"BurntLettersModel", "namesOf", "(I)I"⟩, 29), (⟨"BurntLettersModel", "mayCopy", "(II)Z"⟩, 29), (⟨"BurntLettersModel", "mayRename", "([IIII)Z"⟩, 29), (⟨"BurntLettersModel", "asItIs", "()V"⟩, 29), (⟨"BurntLettersModel", "pass", "(I)I"⟩, 29), (⟨"BurntLettersModel", "burnsOf", "(II)I"⟩, 29), (⟨"BurntLettersModel", "isPointedAt", "(I)Z"⟩, 29), (⟨"BurntLettersModel", "spread", "(I)V"⟩, 29), (⟨"BurntLettersModel", "oddsOf", "(III)I"⟩, 29), (⟨"BurntLettersModel", "livesOf", "(II)I"⟩, 29), (⟨"BurntLettersModel", "whereOf", "(II)I"⟩, 29), (⟨"BurntLettersModel", "isSure", "(IZI)Z"⟩, 29)]
theorem lw_r3 : ∀ q ∈ lw_privs_3, lw_okq q := List.forall_mem_cons.mpr ⟨lw_p32, List.forall_mem_cons.mpr ⟨lw_p33, List.forall_mem_cons.mpr ⟨lw_p34, List.forall_mem_cons.mpr ⟨lw_p35, List.forall_mem_cons.mpr ⟨lw_p36, List.forall_mem_cons.mpr ⟨lw_p37, List.forall_mem_cons.mpr ⟨lw_p38, List.forall_mem_cons.mpr ⟨lw_p39, List.forall_mem_cons.mpr ⟨lw_p40, List.forall_mem_cons.mpr ⟨lw_p41, List.forall_mem_cons.mpr ⟨lw_p42, List.forall_mem_cons.mpr ⟨lw_p43, List.forall_mem_cons.mpr ⟨lw_p44, List.forall_mem_cons.mpr ⟨lw_p45, List.forall_mem_cons.mpr ⟨lw_p46, List.forall_mem_cons.mpr ⟨lw_p47, fun _ h => absurd h List.not_mem_nil⟩⟩⟩⟩⟩⟩⟩⟩⟩⟩⟩⟩⟩⟩⟩⟩
theorem lw_p48 : lw_okq (⟨"BurntLettersModel", "nowhereOf", "()I"⟩, 29) := ⟨⟨by decide +kernel, by decide +kernel⟩, lw_t4 (List.mem_of_getElem? (i := 22) rfl), lw_t5 (List.mem_of_getElem? (i := 34) rfl), lw_t5 (List.mem_of_getElem? (i := 35) rfl)⟩
theorem lw_p49 : lw_okq (⟨"BurntLettersModel", "isMovedBy", "(II)Z"⟩, 29) := ⟨⟨by decide +kernel, by decide +kernel⟩, lw_t4 (List.mem_of_getElem? (i := 22) rfl), lw_t5 (List.mem_of_getElem? (i := 42) rfl), lw_t5 (List.mem_of_getElem? (i := 43) rfl)⟩
theorem lw_p50 : lw_okq (⟨"BurntLettersModel", "above", "(I)I"⟩, 29) := ⟨⟨by decide +kernel, by decide +kernel⟩, lw_t4 (List.mem_of_getElem? (i := 22) rfl), lw_t5 (List.mem_of_getElem? (i := 46) rfl), lw_t5 (List.mem_of_getElem? (i := 47) rfl)⟩
theorem lw_p51 : lw_okq (⟨"BurntLettersModel", "renameNow", "(III)V"⟩, 29) := ⟨⟨by decide +kernel, by decide +kernel⟩, lw_t4 (List.mem_of_getElem? (i := 22) rfl), lw_t5 (List.mem_of_getElem? (i := 50) rfl), lw_t5 (List.mem_of_getElem? (i := 51) rfl)⟩
theorem lw_p52 : lw_okq (⟨"BurntLettersModel", "layFits", "()I"⟩, 29) := ⟨⟨by decide +kernel, by decide +kernel⟩, lw_t4 (List.mem_of_getElem? (i := 22) rfl), lw_t5 (List.mem_of_getElem? (i := 67) rfl), lw_t5 (List.mem_of_getElem? (i := 68) rfl)⟩
theorem lw_p53 : lw_okq (⟨"BurntLettersModel", "isToldBy", "(I)Z"⟩, 29) := ⟨⟨by decide +kernel, by decide +kernel⟩, lw_t4 (List.mem_of_getElem? (i := 22) rfl), lw_t5 (List.mem_of_getElem? (i := 71) rfl), lw_t5 (List.mem_of_getElem? (i := 72) rfl)⟩
theorem lw_p54 : lw_okq (⟨"BurntLettersModel", "livesNow", "()I"⟩, 29) := ⟨⟨by decide +kernel, by decide +kernel⟩, lw_t4 (List.mem_of_getElem? (i := 22) rfl), lw_t5 (List.mem_of_getElem? (i := 75) rfl), lw_t5 (List.mem_of_getElem? (i := 76) rfl)⟩
theorem lw_p55 : lw_okq (⟨"BurntLettersModel", "draw", "(I)I"⟩, 29) := ⟨⟨by decide +kernel, by decide +kernel⟩, lw_t4 (List.mem_of_getElem? (i := 22) rfl), lw_t5 (List.mem_of_getElem? (i := 89) rfl), lw_t5 (List.mem_of_getElem? (i := 90) rfl)⟩
theorem lw_p56 : lw_okq (⟨"BurntLettersModel", "lotOf", "(I)I"⟩, 29) := ⟨⟨by decide +kernel, by decide +kernel⟩, lw_t4 (List.mem_of_getElem? (i := 22) rfl), lw_t5 (List.mem_of_getElem? (i := 97) rfl), lw_t5 (List.mem_of_getElem? (i := 98) rfl)⟩
theorem lw_p57 : lw_okq (⟨"BurntLettersModel", "countOf", "(I)I"⟩, 29) := ⟨⟨by decide +kernel, by decide +kernel⟩, lw_t4 (List.mem_of_getElem? (i := 22) rfl), lw_t5 (List.mem_of_getElem? (i := 116) rfl), lw_t5 (List.mem_of_getElem? (i := 117) rfl)⟩
theorem lw_p58 : lw_okq (⟨"BurntLettersModel", "say", "(J)V"⟩, 29) := ⟨⟨by decide +kernel, by decide +kernel⟩, lw_t4 (List.mem_of_getElem? (i := 22) rfl), lw_t5 (List.mem_of_getElem? (i := 125) rfl), lw_t5 (List.mem_of_getElem? (i := 126) rfl)⟩
theorem lw_p59 : lw_okq (⟨"BurntLettersModel", "sayFile", "(I)V"⟩, 29) := ⟨⟨by decide +kernel, by decide +kernel⟩, lw_t4 (List.mem_of_getElem? (i := 22) rfl), lw_t5 (List.mem_of_getElem? (i := 130) rfl), lw_t5 (List.mem_of_getElem? (i := 131) rfl)⟩
def lw_privs_4 : List (MethodName × Nat) := [(⟨"BurntLettersModel", "nowhereOf", "()I"⟩, 29), (⟨"BurntLettersModel", "isMovedBy", "(II)Z"⟩, 29), (⟨"BurntLettersModel", "above", "(I)I"⟩, 29), (⟨"BurntLettersModel", "renameNow", "(III)V"⟩, 29), (⟨"BurntLettersModel", "layFits", "()I"⟩, 29), (⟨"BurntLettersModel", "isToldBy", "(I)Z"⟩, 29), (⟨"BurntLettersModel", "livesNow", "()I"⟩, 29), (⟨"BurntLettersModel", "draw", "(I)I"⟩, 29), (⟨"BurntLettersModel", "lotOf", "(I)I"⟩, 29), (⟨"BurntLettersModel", "countOf", "(I)I"⟩, 29), (⟨"BurntLettersModel", "say", "(J)V"⟩, 29), (⟨"BurntLettersModel", "sayFile", "(I)V"⟩, 29)]
theorem lw_r4 : ∀ q ∈ lw_privs_4, lw_okq q := List.forall_mem_cons.mpr ⟨lw_p48, List.forall_mem_cons.mpr ⟨lw_p49, List.forall_mem_cons.mpr ⟨lw_p50, List.forall_mem_cons.mpr ⟨lw_p51, List.forall_mem_cons.mpr ⟨lw_p52, List.forall_mem_cons.mpr ⟨lw_p53, List.forall_mem_cons.mpr ⟨lw_p54, List.forall_mem_cons.mpr ⟨lw_p55, List.forall_mem_cons.mpr ⟨lw_p56, List.forall_mem_cons.mpr ⟨lw_p57, List.forall_mem_cons.mpr ⟨lw_p58, List.forall_mem_cons.mpr ⟨lw_p59, fun _ h => absurd h List.not_mem_nil⟩⟩⟩⟩⟩⟩⟩⟩⟩⟩⟩⟩
def lw_privs : List (MethodName × Nat) := lw_privs_1 ++ (lw_privs_2 ++ (lw_privs_3 ++ (lw_privs_4)))
def lw_tbl : List Cond := k2_sels lw_privs ++ tables_1
theorem lw_privs_ok : ∀ q ∈ lw_privs, lw_okq q := by
  show ∀ q ∈ lw_privs_1 ++ (lw_privs_2 ++ (lw_privs_3 ++ (lw_privs_4))), lw_okq q
  exact List.forall_mem_append.mpr ⟨lw_r1, List.forall_mem_append.mpr ⟨lw_r2, List.forall_mem_append.mpr ⟨lw_r3, lw_r4⟩⟩⟩
-- ===== ONE list of words for every method: the tables' words that hold all through a run =====
def lw_all : List Cond := lw_tbl.filter goodWord
/-- a word of the tables by its place: claim/WORDS.tsv -/
theorem lw_w {w : Cond} (i : Nat) (h : lw_tbl[i]? = some w) (g : goodWord w = true) : w ∈ lw_all := List.mem_filter.mpr ⟨List.mem_of_getElem? h, g⟩
theorem lw_all_tbl {w : Cond} (h : w ∈ lw_all) : w ∈ lw_tbl := (List.mem_filter.mp h).1
theorem lw_self : GoodIn lw_all lw_all := fun w h => ⟨h, good_of_word (List.mem_filter.mp h).2⟩
/-- a class's field words, by their places -/
theorem lw_in (ws : List Cond) (ps : List Nat) (hp : ws = ps.filterMap (fun i => lw_tbl[i]?)) (hg : ws.all goodWord = true) : ∀ w ∈ ws, w ∈ lw_all := by
  intro w h
  have h1 := List.all_eq_true.mp hg w h
  rw [hp] at h
  obtain ⟨i, -, hi⟩ := List.mem_filterMap.mp h
  exact lw_w i hi h1
/-- the words of a contract for the method y with code b, L locals, answer r -/
abbrev ws_ (y : MethodName) (b : ByteArray) (L : Nat) (r : Option FieldType) : List Cond := Cond.code y b L r :: lw_all
theorem lw_meth {y : MethodName} {b : ByteArray} {L : Nat} {r : Option FieldType} (h : Cond.code y b L r ∈ lw_all) : GoodIn lw_all (ws_ y b L r) := by
  intro w hw
  rcases List.mem_cons.mp hw with e | e
  · rw [e]
    exact lw_self _ h
  · exact lw_self _ e
theorem lw_app {a c : List Cond} (ha : ∀ w ∈ a, w ∈ lw_all) (hc : GoodIn lw_all c) : GoodIn lw_all (a ++ c) := by
  intro w hw
  rcases List.mem_append.mp hw with e | e
  · exact lw_self w (ha w e)
  · exact hc w e
/-- what a call through an object asks: cwV n hts (lw_V ..) -/
theorem lw_V {own : String} {idx : Nat} {C : String} {y : MethodName} {b : ByteArray} {L : Nat} {r : Option FieldType} (h1 : Cond.methodLink own idx y ∈ lw_all) (h2 : Cond.instanceMethod y ∈ lw_all) (h3 : Cond.selects C y y ∈ lw_all) (h4 : Cond.initialized C ∈ lw_all) (h5 : Cond.code y b L r ∈ lw_all) : GoodIn lw_all (wsV own idx C y (ws_ y b L r)) := by
  refine lw_app ?_ (lw_meth h5)
  intro w hw
  simp only [List.mem_cons, List.not_mem_nil, or_false] at hw
  rcases hw with e | e | e | e
  · rw [e]; exact h1
  · rw [e]; exact h2
  · rw [e]; exact h3
  · rw [e]; exact h4
/-- what a static call asks: va_cwS n hts (lw_S ..) -/
theorem lw_S {own : String} {idx : Nat} {y : MethodName} {b : ByteArray} {L : Nat} {r : Option FieldType} (h1 : Cond.methodLink own idx y ∈ lw_all) (h2 : Cond.static y ∈ lw_all) (h3 : Cond.initialized y.cls ∈ lw_all) (h4 : Cond.code y b L r ∈ lw_all) : GoodIn lw_all (va_wsS own idx y (ws_ y b L r)) := by
  refine lw_app ?_ (lw_meth h4)
  intro w hw
  simp only [List.mem_cons, List.not_mem_nil, or_false] at hw
  rcases hw with e | e | e
  · rw [e]; exact h1
  · rw [e]; exact h2
  · rw [e]; exact h3
/-- the words of a contract for a method WITH HANDLERS (hh: its table) -/
abbrev wsW_ (y : MethodName) (b : ByteArray) (L : Nat) (r : Option FieldType) (hh : List (Nat × Nat × Nat × Nat)) : List Cond := Cond.codeWith y b L r hh :: lw_all
theorem lw_methW {y : MethodName} {b : ByteArray} {L : Nat} {r : Option FieldType} {hh : List (Nat × Nat × Nat × Nat)} (h : Cond.codeWith y b L r hh ∈ lw_all) : GoodIn lw_all (wsW_ y b L r hh) := by
  intro w hw
  rcases List.mem_cons.mp hw with e | e
  · rw [e]
    exact lw_self _ h
  · exact lw_self _ e
/-- any list of words by their places (lw_in), good -/
theorem lw_good {ws : List Cond} (h : ∀ w ∈ ws, w ∈ lw_all) : GoodIn lw_all ws := fun w hw => lw_self w (h w hw)
/-- what a call of a method with handlers asks: vx_cwVW n hts (lw_VW ..), vx_cwSW n hts (lw_SW ..) -/
theorem lw_VW {own : String} {idx : Nat} {C : String} {y : MethodName} {b : ByteArray} {L : Nat} {r : Option FieldType} {hh : List (Nat × Nat × Nat × Nat)} (h1 : Cond.methodLink own idx y ∈ lw_all) (h2 : Cond.instanceMethod y ∈ lw_all) (h3 : Cond.selects C y y ∈ lw_all) (h4 : Cond.initialized C ∈ lw_all) (h5 : Cond.codeWith y b L r hh ∈ lw_all) : GoodIn lw_all (wsV own idx C y (wsW_ y b L r hh)) := by
  refine lw_app ?_ (lw_methW h5)
  intro w hw
  simp only [List.mem_cons, List.not_mem_nil, or_false] at hw
  rcases hw with e | e | e | e
  · rw [e]; exact h1
  · rw [e]; exact h2
  · rw [e]; exact h3
  · rw [e]; exact h4
theorem lw_SW {own : String} {idx : Nat} {y : MethodName} {b : ByteArray} {L : Nat} {r : Option FieldType} {hh : List (Nat × Nat × Nat × Nat)} (h1 : Cond.methodLink own idx y ∈ lw_all) (h2 : Cond.static y ∈ lw_all) (h3 : Cond.initialized y.cls ∈ lw_all) (h4 : Cond.codeWith y b L r hh ∈ lw_all) : GoodIn lw_all (va_wsS own idx y (wsW_ y b L r hh)) := by
  refine lw_app ?_ (lw_methW h4)
  intro w hw
  simp only [List.mem_cons, List.not_mem_nil, or_false] at hw
  rcases hw with e | e | e
  · rw [e]; exact h1
  · rw [e]; exact h2
  · rw [e]; exact h3
/-- a word by its place in its run of the tables -/
theorem lw_at {r : List Cond} (hr : ∀ w ∈ r, w ∈ lw_tbl) {w : Cond} (i : Nat) (h : r[i]? = some w) : w ∈ lw_tbl := hr w (List.mem_of_getElem? h)
theorem lw_g {w : Cond} (h : w ∈ lw_tbl) (g : goodWord w = true) : w ∈ lw_all := List.mem_filter.mpr ⟨h, g⟩
theorem lw_ms : ∀ w ∈ k2_sels lw_privs, w ∈ lw_tbl := fun w h => show w ∈ k2_sels lw_privs ++ tables_1 from List.mem_append_left _ h
theorem lw_m1 : ∀ w ∈ tables_1_1, w ∈ lw_tbl := fun w h => show w ∈ k2_sels lw_privs ++ tables_1 from List.mem_append_right (k2_sels lw_privs) (show w ∈ tables_1 from List.mem_append_left _ h)
theorem lw_m2 : ∀ w ∈ tables_1_2, w ∈ lw_tbl := fun w h => show w ∈ k2_sels lw_privs ++ tables_1 from List.mem_append_right (k2_sels lw_privs) (show w ∈ tables_1 from List.mem_append_right _ (List.mem_append_left _ h))
theorem lw_m3 : ∀ w ∈ tables_1_3, w ∈ lw_tbl := fun w h => show w ∈ k2_sels lw_privs ++ tables_1 from List.mem_append_right (k2_sels lw_privs) (show w ∈ tables_1 from List.mem_append_right _ (List.mem_append_right _ (List.mem_append_left _ h)))
theorem lw_m4 : ∀ w ∈ tables_1_4, w ∈ lw_tbl := fun w h => show w ∈ k2_sels lw_privs ++ tables_1 from List.mem_append_right (k2_sels lw_privs) (show w ∈ tables_1 from List.mem_append_right _ (List.mem_append_right _ (List.mem_append_right _ (List.mem_append_left _ h))))
theorem lw_m5 : ∀ w ∈ tables_1_5, w ∈ lw_tbl := fun w h => show w ∈ k2_sels lw_privs ++ tables_1 from List.mem_append_right (k2_sels lw_privs) (show w ∈ tables_1 from List.mem_append_right _ (List.mem_append_right _ (List.mem_append_right _ (List.mem_append_right _ h))))
theorem qs0 : (Cond.selects "BurntLetters$Reader" ⟨"BurntLetters$Reader", "digit", "(II)I"⟩ ⟨"BurntLetters$Reader", "digit", "(II)I"⟩) ∈ lw_all := lw_g (lw_at lw_ms 0 rfl) rfl
theorem qs1 : (Cond.selects "BurntLetters$Reader" ⟨"BurntLetters$Reader", "next", "()I"⟩ ⟨"BurntLetters$Reader", "next", "()I"⟩) ∈ lw_all := lw_g (lw_at lw_ms 1 rfl) rfl
theorem qs2 : (Cond.selects "BurntLetters$Reader" ⟨"BurntLetters$Reader", "want", "(Z)V"⟩ ⟨"BurntLetters$Reader", "want", "(Z)V"⟩) ∈ lw_all := lw_g (lw_at lw_ms 2 rfl) rfl
theorem qs3 : (Cond.selects "java/lang/Throwable" ⟨"java/lang/Throwable", "fillInStackTrace", "(I)Ljava/lang/Throwable;"⟩ ⟨"java/lang/Throwable", "fillInStackTrace", "(I)Ljava/lang/Throwable;"⟩) ∈ lw_all := lw_g (lw_at lw_ms 3 rfl) rfl
theorem qs4 : (Cond.selects "BurntLetters$Reader" ⟨"BurntLetters$Reader", "takes", "(C)Z"⟩ ⟨"BurntLetters$Reader", "takes", "(C)Z"⟩) ∈ lw_all := lw_g (lw_at lw_ms 4 rfl) rfl
theorem qs5 : (Cond.selects "java/util/ArrayList" ⟨"java/util/ArrayList", "add", "(Ljava/lang/Object;[Ljava/lang/Object;I)V"⟩ ⟨"java/util/ArrayList", "add", "(Ljava/lang/Object;[Ljava/lang/Object;I)V"⟩) ∈ lw_all := lw_g (lw_at lw_ms 5 rfl) rfl
theorem qs6 : (Cond.selects "java/util/ArrayList" ⟨"java/util/ArrayList", "grow", "()[Ljava/lang/Object;"⟩ ⟨"java/util/ArrayList", "grow", "()[Ljava/lang/Object;"⟩) ∈ lw_all := lw_g (lw_at lw_ms 6 rfl) rfl
theorem qs7 : (Cond.selects "java/util/ArrayList" ⟨"java/util/ArrayList", "grow", "(I)[Ljava/lang/Object;"⟩ ⟨"java/util/ArrayList", "grow", "(I)[Ljava/lang/Object;"⟩) ∈ lw_all := lw_g (lw_at lw_ms 7 rfl) rfl
theorem qs8 : (Cond.selects "BurntLetters" ⟨"BurntLetters", "isFile", "(I)Z"⟩ ⟨"BurntLetters", "isFile", "(I)Z"⟩) ∈ lw_all := lw_g (lw_at lw_ms 8 rfl) rfl
theorem qs9 : (Cond.selects "BurntLetters" ⟨"BurntLetters", "told", "(II)I"⟩ ⟨"BurntLetters", "told", "(II)I"⟩) ∈ lw_all := lw_g (lw_at lw_ms 9 rfl) rfl
theorem qs10 : (Cond.selects "BurntLetters$Archive" ⟨"BurntLetters$Archive", "isPointedTo", "(II)Z"⟩ ⟨"BurntLetters$Archive", "isPointedTo", "(II)Z"⟩) ∈ lw_all := lw_g (lw_at lw_ms 10 rfl) rfl
theorem qs11 : (Cond.selects "BurntLetters$Archive" ⟨"BurntLetters$Archive", "spread", "(I)V"⟩ ⟨"BurntLetters$Archive", "spread", "(I)V"⟩) ∈ lw_all := lw_g (lw_at lw_ms 11 rfl) rfl
theorem qs12 : (Cond.selects "BurntLetters" ⟨"BurntLetters", "oddsOf", "(III)I"⟩ ⟨"BurntLetters", "oddsOf", "(III)I"⟩) ∈ lw_all := lw_g (lw_at lw_ms 12 rfl) rfl
theorem qs13 : (Cond.selects "BurntLetters" ⟨"BurntLetters", "livesIn", "(III)I"⟩ ⟨"BurntLetters", "livesIn", "(III)I"⟩) ∈ lw_all := lw_g (lw_at lw_ms 13 rfl) rfl
theorem qs14 : (Cond.selects "BurntLetters" ⟨"BurntLetters", "whereOf", "(II)I"⟩ ⟨"BurntLetters", "whereOf", "(II)I"⟩) ∈ lw_all := lw_g (lw_at lw_ms 14 rfl) rfl
theorem qs15 : (Cond.selects "BurntLetters" ⟨"BurntLetters", "sureTold", "(III)I"⟩ ⟨"BurntLetters", "sureTold", "(III)I"⟩) ∈ lw_all := lw_g (lw_at lw_ms 15 rfl) rfl
theorem qs16 : (Cond.selects "BurntLetters" ⟨"BurntLetters", "isSure", "(LBurntLetters$Paper;II)Z"⟩ ⟨"BurntLetters", "isSure", "(LBurntLetters$Paper;II)Z"⟩) ∈ lw_all := lw_g (lw_at lw_ms 16 rfl) rfl
theorem qs17 : (Cond.selects "BurntLetters" ⟨"BurntLetters", "nowhereNow", "()I"⟩ ⟨"BurntLetters", "nowhereNow", "()I"⟩) ∈ lw_all := lw_g (lw_at lw_ms 17 rfl) rfl
theorem qs18 : (Cond.selects "BurntLetters" ⟨"BurntLetters", "movingTold", "(I)I"⟩ ⟨"BurntLetters", "movingTold", "(I)I"⟩) ∈ lw_all := lw_g (lw_at lw_ms 18 rfl) rfl
theorem qs19 : (Cond.selects "BurntLetters" ⟨"BurntLetters", "isEnough", "(II)Z"⟩ ⟨"BurntLetters", "isEnough", "(II)Z"⟩) ∈ lw_all := lw_g (lw_at lw_ms 19 rfl) rfl
theorem qs20 : (Cond.selects "BurntLetters" ⟨"BurntLetters", "above", "(I)I"⟩ ⟨"BurntLetters", "above", "(I)I"⟩) ∈ lw_all := lw_g (lw_at lw_ms 20 rfl) rfl
theorem qs21 : (Cond.selects "BurntLetters" ⟨"BurntLetters", "layFits", "()I"⟩ ⟨"BurntLetters", "layFits", "()I"⟩) ∈ lw_all := lw_g (lw_at lw_ms 21 rfl) rfl
theorem qs22 : (Cond.selects "BurntLetters" ⟨"BurntLetters", "isSo", "(I)Z"⟩ ⟨"BurntLetters", "isSo", "(I)Z"⟩) ∈ lw_all := lw_g (lw_at lw_ms 22 rfl) rfl
theorem qs23 : (Cond.selects "BurntLetters" ⟨"BurntLetters", "burntOf", "(I)I"⟩ ⟨"BurntLetters", "burntOf", "(I)I"⟩) ∈ lw_all := lw_g (lw_at lw_ms 23 rfl) rfl
theorem qs24 : (Cond.selects "BurntLetters" ⟨"BurntLetters", "yearsTold", "(III)I"⟩ ⟨"BurntLetters", "yearsTold", "(III)I"⟩) ∈ lw_all := lw_g (lw_at lw_ms 24 rfl) rfl
theorem qs25 : (Cond.selects "BurntLetters" ⟨"BurntLetters", "draw", "(I)I"⟩ ⟨"BurntLetters", "draw", "(I)I"⟩) ∈ lw_all := lw_g (lw_at lw_ms 25 rfl) rfl
theorem qs26 : (Cond.selects "BurntLetters" ⟨"BurntLetters", "letterBy", "(I)I"⟩ ⟨"BurntLetters", "letterBy", "(I)I"⟩) ∈ lw_all := lw_g (lw_at lw_ms 26 rfl) rfl
theorem qs27 : (Cond.selects "java/util/ArrayList" ⟨"java/util/ArrayList", "fastRemove", "([Ljava/lang/Object;I)V"⟩ ⟨"java/util/ArrayList", "fastRemove", "([Ljava/lang/Object;I)V"⟩) ∈ lw_all := lw_g (lw_at lw_ms 27 rfl) rfl
theorem qs28 : (Cond.selects "BurntLetters" ⟨"BurntLetters", "countOf", "(I)I"⟩ ⟨"BurntLetters", "countOf", "(I)I"⟩) ∈ lw_all := lw_g (lw_at lw_ms 28 rfl) rfl
theorem qs29 : (Cond.selects "BurntLetters" ⟨"BurntLetters", "mixedFile", "(JI)J"⟩ ⟨"BurntLetters", "mixedFile", "(JI)J"⟩) ∈ lw_all := lw_g (lw_at lw_ms 29 rfl) rfl
theorem qs30 : (Cond.selects "BurntLettersModel" ⟨"BurntLettersModel", "faultOf", "()I"⟩ ⟨"BurntLettersModel", "faultOf", "()I"⟩) ∈ lw_all := lw_g (lw_at lw_ms 30 rfl) rfl
theorem qs31 : (Cond.selects "BurntLettersModel" ⟨"BurntLettersModel", "tellUnder", "(II)I"⟩ ⟨"BurntLettersModel", "tellUnder", "(II)I"⟩) ∈ lw_all := lw_g (lw_at lw_ms 31 rfl) rfl
theorem qs32 : (Cond.selects "BurntLettersModel" ⟨"BurntLettersModel", "fullness", "([II)I"⟩ ⟨"BurntLettersModel", "fullness", "([II)I"⟩) ∈ lw_all := lw_g (lw_at lw_ms 32 rfl) rfl
theorem qs33 : (Cond.selects "BurntLettersModel" ⟨"BurntLettersModel", "lacks", "()Z"⟩ ⟨"BurntLettersModel", "lacks", "()Z"⟩) ∈ lw_all := lw_g (lw_at lw_ms 33 rfl) rfl
theorem qs34 : (Cond.selects "BurntLettersModel" ⟨"BurntLettersModel", "isFile", "(I)Z"⟩ ⟨"BurntLettersModel", "isFile", "(I)Z"⟩) ∈ lw_all := lw_g (lw_at lw_ms 34 rfl) rfl
theorem qs35 : (Cond.selects "BurntLettersModel" ⟨"BurntLettersModel", "tell", "(II)I"⟩ ⟨"BurntLettersModel", "tell", "(II)I"⟩) ∈ lw_all := lw_g (lw_at lw_ms 35 rfl) rfl
theorem qs36 : (Cond.selects "BurntLettersModel" ⟨"BurntLettersModel", "namesOf", "(I)I"⟩ ⟨"BurntLettersModel", "namesOf", "(I)I"⟩) ∈ lw_all := lw_g (lw_at lw_ms 36 rfl) rfl
theorem qs37 : (Cond.selects "BurntLettersModel" ⟨"BurntLettersModel", "mayCopy", "(II)Z"⟩ ⟨"BurntLettersModel", "mayCopy", "(II)Z"⟩) ∈ lw_all := lw_g (lw_at lw_ms 37 rfl) rfl
theorem qs38 : (Cond.selects "BurntLettersModel" ⟨"BurntLettersModel", "mayRename", "([IIII)Z"⟩ ⟨"BurntLettersModel", "mayRename", "([IIII)Z"⟩) ∈ lw_all := lw_g (lw_at lw_ms 38 rfl) rfl
theorem qs39 : (Cond.selects "BurntLettersModel" ⟨"BurntLettersModel", "asItIs", "()V"⟩ ⟨"BurntLettersModel", "asItIs", "()V"⟩) ∈ lw_all := lw_g (lw_at lw_ms 39 rfl) rfl
theorem qs40 : (Cond.selects "BurntLettersModel" ⟨"BurntLettersModel", "pass", "(I)I"⟩ ⟨"BurntLettersModel", "pass", "(I)I"⟩) ∈ lw_all := lw_g (lw_at lw_ms 40 rfl) rfl
theorem qs41 : (Cond.selects "BurntLettersModel" ⟨"BurntLettersModel", "burnsOf", "(II)I"⟩ ⟨"BurntLettersModel", "burnsOf", "(II)I"⟩) ∈ lw_all := lw_g (lw_at lw_ms 41 rfl) rfl
theorem qs42 : (Cond.selects "BurntLettersModel" ⟨"BurntLettersModel", "isPointedAt", "(I)Z"⟩ ⟨"BurntLettersModel", "isPointedAt", "(I)Z"⟩) ∈ lw_all := lw_g (lw_at lw_ms 42 rfl) rfl
theorem qs43 : (Cond.selects "BurntLettersModel" ⟨"BurntLettersModel", "spread", "(I)V"⟩ ⟨"BurntLettersModel", "spread", "(I)V"⟩) ∈ lw_all := lw_g (lw_at lw_ms 43 rfl) rfl
theorem qs44 : (Cond.selects "BurntLettersModel" ⟨"BurntLettersModel", "oddsOf", "(III)I"⟩ ⟨"BurntLettersModel", "oddsOf", "(III)I"⟩) ∈ lw_all := lw_g (lw_at lw_ms 44 rfl) rfl
theorem qs45 : (Cond.selects "BurntLettersModel" ⟨"BurntLettersModel", "livesOf", "(II)I"⟩ ⟨"BurntLettersModel", "livesOf", "(II)I"⟩) ∈ lw_all := lw_g (lw_at lw_ms 45 rfl) rfl
theorem qs46 : (Cond.selects "BurntLettersModel" ⟨"BurntLettersModel", "whereOf", "(II)I"⟩ ⟨"BurntLettersModel", "whereOf", "(II)I"⟩) ∈ lw_all := lw_g (lw_at lw_ms 46 rfl) rfl
theorem qs47 : (Cond.selects "BurntLettersModel" ⟨"BurntLettersModel", "isSure", "(IZI)Z"⟩ ⟨"BurntLettersModel", "isSure", "(IZI)Z"⟩) ∈ lw_all := lw_g (lw_at lw_ms 47 rfl) rfl
theorem qs48 : (Cond.selects "BurntLettersModel" ⟨"BurntLettersModel", "nowhereOf", "()I"⟩ ⟨"BurntLettersModel", "nowhereOf", "()I"⟩) ∈ lw_all := lw_g (lw_at lw_ms 48 rfl) rfl
theorem qs49 : (Cond.selects "BurntLettersModel" ⟨"BurntLettersModel", "isMovedBy", "(II)Z"⟩ ⟨"BurntLettersModel", "isMovedBy", "(II)Z"⟩) ∈ lw_all := lw_g (lw_at lw_ms 49 rfl) rfl
theorem qs50 : (Cond.selects "BurntLettersModel" ⟨"BurntLettersModel", "above", "(I)I"⟩ ⟨"BurntLettersModel", "above", "(I)I"⟩) ∈ lw_all := lw_g (lw_at lw_ms 50 rfl) rfl
theorem qs51 : (Cond.selects "BurntLettersModel" ⟨"BurntLettersModel", "renameNow", "(III)V"⟩ ⟨"BurntLettersModel", "renameNow", "(III)V"⟩) ∈ lw_all := lw_g (lw_at lw_ms 51 rfl) rfl
theorem qs52 : (Cond.selects "BurntLettersModel" ⟨"BurntLettersModel", "layFits", "()I"⟩ ⟨"BurntLettersModel", "layFits", "()I"⟩) ∈ lw_all := lw_g (lw_at lw_ms 52 rfl) rfl
theorem qs53 : (Cond.selects "BurntLettersModel" ⟨"BurntLettersModel", "isToldBy", "(I)Z"⟩ ⟨"BurntLettersModel", "isToldBy", "(I)Z"⟩) ∈ lw_all := lw_g (lw_at lw_ms 53 rfl) rfl
theorem qs54 : (Cond.selects "BurntLettersModel" ⟨"BurntLettersModel", "livesNow", "()I"⟩ ⟨"BurntLettersModel", "livesNow", "()I"⟩) ∈ lw_all := lw_g (lw_at lw_ms 54 rfl) rfl
theorem qs55 : (Cond.selects "BurntLettersModel" ⟨"BurntLettersModel", "draw", "(I)I"⟩ ⟨"BurntLettersModel", "draw", "(I)I"⟩) ∈ lw_all := lw_g (lw_at lw_ms 55 rfl) rfl
theorem qs56 : (Cond.selects "BurntLettersModel" ⟨"BurntLettersModel", "lotOf", "(I)I"⟩ ⟨"BurntLettersModel", "lotOf", "(I)I"⟩) ∈ lw_all := lw_g (lw_at lw_ms 56 rfl) rfl
theorem qs57 : (Cond.selects "BurntLettersModel" ⟨"BurntLettersModel", "countOf", "(I)I"⟩ ⟨"BurntLettersModel", "countOf", "(I)I"⟩) ∈ lw_all := lw_g (lw_at lw_ms 57 rfl) rfl
theorem qs58 : (Cond.selects "BurntLettersModel" ⟨"BurntLettersModel", "say", "(J)V"⟩ ⟨"BurntLettersModel", "say", "(J)V"⟩) ∈ lw_all := lw_g (lw_at lw_ms 58 rfl) rfl
theorem qs59 : (Cond.selects "BurntLettersModel" ⟨"BurntLettersModel", "sayFile", "(I)V"⟩ ⟨"BurntLettersModel", "sayFile", "(I)V"⟩) ∈ lw_all := lw_g (lw_at lw_ms 59 rfl) rfl
