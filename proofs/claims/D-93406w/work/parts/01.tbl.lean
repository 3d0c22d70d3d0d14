-- ===== PART A: goes FIRST, ahead of the names: the tables' words, and 'selects' of the private methods out of them =====
/-- a private method of a class that the tables say can be made, by its rows of tables_1 -/
def lw_okq (q : MethodName × Nat) : Prop := (q.1.cls ≠ "java/lang/invoke/MethodHandle" ∧ q.1.cls ≠ "java/lang/invoke/VarHandle") ∧ Cond.instantiable q.1.cls q.2 ∈ tables_1 ∧ Cond.privateMethod q.1 ∈ tables_1 ∧ Cond.instanceMethod q.1 ∈ tables_1
set_option maxRecDepth 100000
theorem lw_t1 {w : Cond} (h : w ∈ tables_1_1) : w ∈ tables_1 := List.mem_append_left _ h
theorem lw_t2 {w : Cond} (h : w ∈ tables_1_2) : w ∈ tables_1 := List.mem_append_right _ (List.mem_append_left _ h)
theorem lw_t3 {w : Cond} (h : w ∈ tables_1_3) : w ∈ tables_1 := List.mem_append_right _ (List.mem_append_right _ (List.mem_append_left _ h))
theorem lw_t4 {w : Cond} (h : w ∈ tables_1_4) : w ∈ tables_1 := List.mem_append_right _ (List.mem_append_right _ (List.mem_append_right _ (List.mem_append_left _ h)))
theorem lw_t5 {w : Cond} (h : w ∈ tables_1_5) : w ∈ tables_1 := List.mem_append_right _ (List.mem_append_right _ (List.mem_append_right _ (List.mem_append_right _ (List.mem_append_left _ h))))
theorem lw_t6 {w : Cond} (h : w ∈ tables_1_6) : w ∈ tables_1 := List.mem_append_right _ (List.mem_append_right _ (List.mem_append_right _ (List.mem_append_right _ (List.mem_append_right _ (List.mem_append_left _ h)))))
theorem lw_t7 {w : Cond} (h : w ∈ tables_1_7) : w ∈ tables_1 := List.mem_append_right _ (List.mem_append_right _ (List.mem_append_right _ (List.mem_append_right _ (List.mem_append_right _ (List.mem_append_right _ h)))))
theorem lw_p0 : lw_okq (⟨"TermIdeals", "isGenerator", "(II)Z"⟩, 19) := ⟨⟨by decide +kernel, by decide +kernel⟩, lw_t1 (List.mem_of_getElem? (i := 30) rfl), lw_t2 (List.mem_of_getElem? (i := 27) rfl), lw_t2 (List.mem_of_getElem? (i := 28) rfl)⟩
theorem lw_p1 : lw_okq (⟨"TermIdeals", "becomes", "(I)I"⟩, 19) := ⟨⟨by decide +kernel, by decide +kernel⟩, lw_t1 (List.mem_of_getElem? (i := 30) rfl), lw_t2 (List.mem_of_getElem? (i := 44) rfl), lw_t2 (List.mem_of_getElem? (i := 45) rfl)⟩
theorem lw_p2 : lw_okq (⟨"java/lang/NullPointerException", "getExtendedNPEMessage", "()Ljava/lang/String;"⟩, 8) := ⟨⟨by decide +kernel, by decide +kernel⟩, lw_t2 (List.mem_of_getElem? (i := 102) rfl), lw_t2 (List.mem_of_getElem? (i := 100) rfl), lw_t2 (List.mem_of_getElem? (i := 101) rfl)⟩
theorem lw_p3 : lw_okq (⟨"java/lang/Throwable", "fillInStackTrace", "(I)Ljava/lang/Throwable;"⟩, 6) := ⟨⟨by decide +kernel, by decide +kernel⟩, lw_t2 (List.mem_of_getElem? (i := 114) rfl), lw_t2 (List.mem_of_getElem? (i := 112) rfl), lw_t2 (List.mem_of_getElem? (i := 113) rfl)⟩
theorem lw_p4 : lw_okq (⟨"TermIdeals$Faces", "comes", "(II)V"⟩, 10) := ⟨⟨by decide +kernel, by decide +kernel⟩, lw_t1 (List.mem_of_getElem? (i := 62) rfl), lw_t2 (List.mem_of_getElem? (i := 137) rfl), lw_t2 (List.mem_of_getElem? (i := 138) rfl)⟩
theorem lw_p5 : lw_okq (⟨"TermIdeals$Faces", "level", "(II)I"⟩, 10) := ⟨⟨by decide +kernel, by decide +kernel⟩, lw_t1 (List.mem_of_getElem? (i := 62) rfl), lw_t2 (List.mem_of_getElem? (i := 141) rfl), lw_t2 (List.mem_of_getElem? (i := 142) rfl)⟩
theorem lw_p6 : lw_okq (⟨"TermIdeals$Faces", "isFace", "(III)Z"⟩, 10) := ⟨⟨by decide +kernel, by decide +kernel⟩, lw_t1 (List.mem_of_getElem? (i := 62) rfl), lw_t2 (List.mem_of_getElem? (i := 151) rfl), lw_t2 (List.mem_of_getElem? (i := 152) rfl)⟩
theorem lw_p7 : lw_okq (⟨"TermIdeals", "isCorner", "(II)Z"⟩, 19) := ⟨⟨by decide +kernel, by decide +kernel⟩, lw_t1 (List.mem_of_getElem? (i := 30) rfl), lw_t2 (List.mem_of_getElem? (i := 155) rfl), lw_t2 (List.mem_of_getElem? (i := 156) rfl)⟩
theorem lw_p8 : lw_okq (⟨"TermIdeals$Reader", "clause", "()LTermIdeals$Clause;"⟩, 5) := ⟨⟨by decide +kernel, by decide +kernel⟩, lw_t2 (List.mem_of_getElem? (i := 180) rfl), lw_t2 (List.mem_of_getElem? (i := 208) rfl), lw_t2 (List.mem_of_getElem? (i := 209) rfl)⟩
theorem lw_p9 : lw_okq (⟨"TermIdeals$Reader", "here", "()I"⟩, 5) := ⟨⟨by decide +kernel, by decide +kernel⟩, lw_t2 (List.mem_of_getElem? (i := 180) rfl), lw_t2 (List.mem_of_getElem? (i := 212) rfl), lw_t2 (List.mem_of_getElem? (i := 213) rfl)⟩
theorem lw_p10 : lw_okq (⟨"TermIdeals$Reader", "digit", "()I"⟩, 5) := ⟨⟨by decide +kernel, by decide +kernel⟩, lw_t2 (List.mem_of_getElem? (i := 180) rfl), lw_t2 (List.mem_of_getElem? (i := 216) rfl), lw_t2 (List.mem_of_getElem? (i := 217) rfl)⟩
theorem lw_p11 : lw_okq (⟨"TermIdeals$Faces", "weight", "(III)I"⟩, 10) := ⟨⟨by decide +kernel, by decide +kernel⟩, lw_t1 (List.mem_of_getElem? (i := 62) rfl), lw_t3 (List.mem_of_getElem? (i := 70) rfl), lw_t3 (List.mem_of_getElem? (i := 71) rfl)⟩
theorem lw_p12 : lw_okq (⟨"TermIdeals$Faces", "notes", "()V"⟩, 10) := ⟨⟨by decide +kernel, by decide +kernel⟩, lw_t1 (List.mem_of_getElem? (i := 62) rfl), lw_t3 (List.mem_of_getElem? (i := 74) rfl), lw_t3 (List.mem_of_getElem? (i := 75) rfl)⟩
theorem lw_p13 : lw_okq (⟨"TermIdeals", "asks", "(IIIII)V"⟩, 19) := ⟨⟨by decide +kernel, by decide +kernel⟩, lw_t1 (List.mem_of_getElem? (i := 30) rfl), lw_t3 (List.mem_of_getElem? (i := 95) rfl), lw_t3 (List.mem_of_getElem? (i := 96) rfl)⟩
theorem lw_p14 : lw_okq (⟨"TermIdeals$Faces", "asks", "(IIIII)V"⟩, 10) := ⟨⟨by decide +kernel, by decide +kernel⟩, lw_t1 (List.mem_of_getElem? (i := 62) rfl), lw_t3 (List.mem_of_getElem? (i := 103) rfl), lw_t3 (List.mem_of_getElem? (i := 104) rfl)⟩
theorem lw_p15 : lw_okq (⟨"TermIdeals$Faces", "weighs", "(IIIII)V"⟩, 10) := ⟨⟨by decide +kernel, by decide +kernel⟩, lw_t1 (List.mem_of_getElem? (i := 62) rfl), lw_t3 (List.mem_of_getElem? (i := 108) rfl), lw_t3 (List.mem_of_getElem? (i := 109) rfl)⟩
def lw_privs_1 : List (MethodName × Nat) := [(⟨"TermIdeals", "isGenerator", "(II)Z"⟩, 19), (⟨"TermIdeals", "becomes", "(I)I"⟩, 19), (⟨"java/lang/NullPointerException", "getExtendedNPEMessage", "()Ljava/lang/String;"⟩, 8), (⟨"java/lang/Throwable", "fillInStackTrace", "(I)Ljava/lang/Throwable;"⟩, 6), (⟨"TermIdeals$Faces", "comes", "(II)V"⟩, 10), (⟨"TermIdeals$Faces", "level", "(II)I"⟩, 10), (⟨"TermIdeals$Faces", "isFace", "(III)Z"⟩, 10), (⟨"TermIdeals", "isCorner", "(II)Z"⟩, 19), (⟨"TermIdeals$Reader", "clause", "()LTermIdeals$Clause;"⟩, 5), (⟨"TermIdeals$Reader", "here", "()I"⟩, 5), (⟨"TermIdeals$Reader", "digit", "()I"⟩, 5), (⟨"TermIdeals$Faces", "weight", "(III)I"⟩, 10), (⟨"TermIdeals$Faces", "notes", "()V"⟩, 10), (⟨"TermIdeals", "asks", "(IIIII)V"⟩, 19), (⟨"TermIdeals$Faces", "asks", "(IIIII)V"⟩, 10), (⟨"TermIdeals$Faces", "weighs", "(IIIII)V"⟩, 10)]
theorem lw_r1 : ∀ q ∈ lw_privs_1, lw_okq q := List.forall_mem_cons.mpr ⟨lw_p0, List.forall_mem_cons.mpr ⟨lw_p1, List.forall_mem_cons.mpr ⟨lw_p2, List.forall_mem_cons.mpr ⟨lw_p3, List.forall_mem_cons.mpr ⟨lw_p4, List.forall_mem_cons.mpr ⟨lw_p5, List.forall_mem_cons.mpr ⟨lw_p6, List.forall_mem_cons.mpr ⟨lw_p7, List.forall_mem_cons.mpr ⟨lw_p8, List.forall_mem_cons.mpr ⟨lw_p9, List.forall_mem_cons.mpr ⟨lw_p10, List.forall_mem_cons.mpr ⟨lw_p11, List.forall_mem_cons.mpr ⟨lw_p12, List.forall_mem_cons.mpr ⟨lw_p13, List.forall_mem_cons.mpr ⟨lw_p14, List.forall_mem_cons.mpr ⟨lw_p15, fun _ h => absurd h List.not_mem_nil⟩⟩⟩⟩⟩⟩⟩⟩⟩⟩⟩⟩⟩⟩⟩⟩
theorem lw_p16 : lw_okq (⟨"TermIdeals", "powers", "(LTermIdeals$Ideal;I)V"⟩, 19) := ⟨⟨by decide +kernel, by decide +kernel⟩, lw_t1 (List.mem_of_getElem? (i := 30) rfl), lw_t4 (List.mem_of_getElem? (i := 8) rfl), lw_t4 (List.mem_of_getElem? (i := 9) rfl)⟩
theorem lw_p17 : lw_okq (⟨"TermIdeals", "isReduction", "()Z"⟩, 19) := ⟨⟨by decide +kernel, by decide +kernel⟩, lw_t1 (List.mem_of_getElem? (i := 30) rfl), lw_t4 (List.mem_of_getElem? (i := 25) rfl), lw_t4 (List.mem_of_getElem? (i := 26) rfl)⟩
theorem lw_p18 : lw_okq (⟨"TermIdeals", "met", "()I"⟩, 19) := ⟨⟨by decide +kernel, by decide +kernel⟩, lw_t1 (List.mem_of_getElem? (i := 30) rfl), lw_t4 (List.mem_of_getElem? (i := 29) rfl), lw_t4 (List.mem_of_getElem? (i := 30) rfl)⟩
theorem lw_p19 : lw_okq (⟨"TermIdeals", "areSo", "(LTermIdeals$Ideal;)Z"⟩, 19) := ⟨⟨by decide +kernel, by decide +kernel⟩, lw_t1 (List.mem_of_getElem? (i := 30) rfl), lw_t4 (List.mem_of_getElem? (i := 57) rfl), lw_t4 (List.mem_of_getElem? (i := 58) rfl)⟩
theorem lw_p20 : lw_okq (⟨"TermIdeals", "happens", "(II)V"⟩, 19) := ⟨⟨by decide +kernel, by decide +kernel⟩, lw_t1 (List.mem_of_getElem? (i := 30) rfl), lw_t4 (List.mem_of_getElem? (i := 82) rfl), lw_t4 (List.mem_of_getElem? (i := 83) rfl)⟩
theorem lw_p21 : lw_okq (⟨"TermIdeals", "firstOther", "(LTermIdeals$Ideal;[BI)I"⟩, 19) := ⟨⟨by decide +kernel, by decide +kernel⟩, lw_t1 (List.mem_of_getElem? (i := 30) rfl), lw_t4 (List.mem_of_getElem? (i := 140) rfl), lw_t4 (List.mem_of_getElem? (i := 141) rfl)⟩
theorem lw_p22 : lw_okq (⟨"TermIdeals", "both", "()I"⟩, 19) := ⟨⟨by decide +kernel, by decide +kernel⟩, lw_t1 (List.mem_of_getElem? (i := 30) rfl), lw_t4 (List.mem_of_getElem? (i := 195) rfl), lw_t4 (List.mem_of_getElem? (i := 196) rfl)⟩
theorem lw_p23 : lw_okq (⟨"TermIdeals$Tape", "has", "(I)V"⟩, 1) := ⟨⟨by decide +kernel, by decide +kernel⟩, lw_t1 (List.mem_of_getElem? (i := 162) rfl), lw_t4 (List.mem_of_getElem? (i := 236) rfl), lw_t4 (List.mem_of_getElem? (i := 237) rfl)⟩
theorem lw_p24 : lw_okq (⟨"TermIdeals$Tape", "size", "()I"⟩, 1) := ⟨⟨by decide +kernel, by decide +kernel⟩, lw_t1 (List.mem_of_getElem? (i := 162) rfl), lw_t5 (List.mem_of_getElem? (i := 19) rfl), lw_t5 (List.mem_of_getElem? (i := 20) rfl)⟩
theorem lw_p25 : lw_okq (⟨"TermIdealsModel", "which", "(III)I"⟩, 46) := ⟨⟨by decide +kernel, by decide +kernel⟩, lw_t5 (List.mem_of_getElem? (i := 58) rfl), lw_t5 (List.mem_of_getElem? (i := 217) rfl), lw_t5 (List.mem_of_getElem? (i := 218) rfl)⟩
theorem lw_p26 : lw_okq (⟨"TermIdealsModel", "a", "(II)I"⟩, 46) := ⟨⟨by decide +kernel, by decide +kernel⟩, lw_t5 (List.mem_of_getElem? (i := 58) rfl), lw_t5 (List.mem_of_getElem? (i := 221) rfl), lw_t5 (List.mem_of_getElem? (i := 222) rfl)⟩
theorem lw_p27 : lw_okq (⟨"TermIdealsModel", "b", "(II)I"⟩, 46) := ⟨⟨by decide +kernel, by decide +kernel⟩, lw_t5 (List.mem_of_getElem? (i := 58) rfl), lw_t5 (List.mem_of_getElem? (i := 225) rfl), lw_t5 (List.mem_of_getElem? (i := 226) rfl)⟩
theorem lw_p28 : lw_okq (⟨"TermIdealsModel", "deed", "(I)V"⟩, 46) := ⟨⟨by decide +kernel, by decide +kernel⟩, lw_t5 (List.mem_of_getElem? (i := 58) rfl), lw_t5 (List.mem_of_getElem? (i := 229) rfl), lw_t5 (List.mem_of_getElem? (i := 230) rfl)⟩
theorem lw_p29 : lw_okq (⟨"TermIdealsModel", "comes", "(III)V"⟩, 46) := ⟨⟨by decide +kernel, by decide +kernel⟩, lw_t5 (List.mem_of_getElem? (i := 58) rfl), lw_t5 (List.mem_of_getElem? (i := 233) rfl), lw_t5 (List.mem_of_getElem? (i := 234) rfl)⟩
theorem lw_p30 : lw_okq (⟨"TermIdealsModel", "isGenerator", "(II)Z"⟩, 46) := ⟨⟨by decide +kernel, by decide +kernel⟩, lw_t5 (List.mem_of_getElem? (i := 58) rfl), lw_t6 (List.mem_of_getElem? (i := 1) rfl), lw_t6 (List.mem_of_getElem? (i := 2) rfl)⟩
theorem lw_p31 : lw_okq (⟨"TermIdealsModel", "goes", "(II)V"⟩, 46) := ⟨⟨by decide +kernel, by decide +kernel⟩, lw_t5 (List.mem_of_getElem? (i := 58) rfl), lw_t6 (List.mem_of_getElem? (i := 5) rfl), lw_t6 (List.mem_of_getElem? (i := 6) rfl)⟩
def lw_privs_2 : List (MethodName × Nat) := [(⟨"TermIdeals", "powers", "(LTermIdeals$Ideal;I)V"⟩, 19), (⟨"TermIdeals", "isReduction", "()Z"⟩, 19), (⟨"TermIdeals", "met", "()I"⟩, 19), (⟨"TermIdeals", "areSo", "(LTermIdeals$Ideal;)Z"⟩, 19), (⟨"TermIdeals", "happens", "(II)V"⟩, 19), (⟨"TermIdeals", "firstOther", "(LTermIdeals$Ideal;[BI)I"⟩, 19), (⟨"TermIdeals", "both", "()I"⟩, 19), (⟨"TermIdeals$Tape", "has", "(I)V"⟩, 1), (⟨"TermIdeals$Tape", "size", "()I"⟩, 1), (⟨"TermIdealsModel", "which", "(III)I"⟩, 46), (⟨"TermIdealsModel", "a", "(II)I"⟩, 46), (⟨"TermIdealsModel", "b", "(II)I"⟩, 46), (⟨"TermIdealsModel", "deed", "(I)V"⟩, 46), (⟨"TermIdealsModel", "comes", "(III)V"⟩, 46), (⟨"TermIdealsModel", "isGenerator", "(II)Z"⟩, 46), (⟨"TermIdealsModel", "goes", "(II)V"⟩, 46)]
theorem lw_r2 : ∀ q ∈ lw_privs_2, lw_okq q := List.forall_mem_cons.mpr ⟨lw_p16, List.forall_mem_cons.mpr ⟨lw_p17, List.forall_mem_cons.mpr ⟨lw_p18, List.forall_mem_cons.mpr ⟨lw_p19, List.forall_mem_cons.mpr ⟨lw_p20, List.forall_mem_cons.mpr ⟨lw_p21, List.forall_mem_cons.mpr ⟨lw_p22, List.forall_mem_cons.mpr ⟨lw_p23, List.forall_mem_cons.mpr ⟨lw_p24, List.forall_mem_cons.mpr ⟨lw_p25, List.forall_mem_cons.mpr ⟨lw_p26, List.forall_mem_cons.mpr ⟨lw_p27, List.forall_mem_cons.mpr ⟨lw_p28, List.forall_mem_cons.mpr ⟨lw_p29, List.forall_mem_cons.mpr ⟨lw_p30, List.forall_mem_cons.mpr ⟨lw_p31, fun _ h => absurd h List.not_mem_nil⟩⟩⟩⟩⟩⟩⟩⟩⟩⟩⟩⟩⟩⟩⟩⟩
theorem lw_p32 : lw_okq (⟨"TermIdealsModel", "tellsFaces", "(I)V"⟩, 46) := ⟨⟨by decide +kernel, by decide +kernel⟩, lw_t5 (List.mem_of_getElem? (i := 58) rfl), lw_t6 (List.mem_of_getElem? (i := 21) rfl), lw_t6 (List.mem_of_getElem? (i := 22) rfl)⟩
theorem lw_p33 : lw_okq (⟨"TermIdealsModel", "comesFace", "(III)V"⟩, 46) := ⟨⟨by decide +kernel, by decide +kernel⟩, lw_t5 (List.mem_of_getElem? (i := 58) rfl), lw_t6 (List.mem_of_getElem? (i := 25) rfl), lw_t6 (List.mem_of_getElem? (i := 26) rfl)⟩
theorem lw_p34 : lw_okq (⟨"TermIdealsModel", "levelOf", "(III)I"⟩, 46) := ⟨⟨by decide +kernel, by decide +kernel⟩, lw_t5 (List.mem_of_getElem? (i := 58) rfl), lw_t6 (List.mem_of_getElem? (i := 29) rfl), lw_t6 (List.mem_of_getElem? (i := 30) rfl)⟩
theorem lw_p35 : lw_okq (⟨"TermIdealsModel", "metBy", "(IIII)I"⟩, 46) := ⟨⟨by decide +kernel, by decide +kernel⟩, lw_t5 (List.mem_of_getElem? (i := 58) rfl), lw_t6 (List.mem_of_getElem? (i := 37) rfl), lw_t6 (List.mem_of_getElem? (i := 38) rfl)⟩
theorem lw_p36 : lw_okq (⟨"TermIdealsModel", "isCorner", "(II)Z"⟩, 46) := ⟨⟨by decide +kernel, by decide +kernel⟩, lw_t5 (List.mem_of_getElem? (i := 58) rfl), lw_t6 (List.mem_of_getElem? (i := 41) rfl), lw_t6 (List.mem_of_getElem? (i := 42) rfl)⟩
theorem lw_p37 : lw_okq (⟨"TermIdealsModel", "isInHull", "(II)Z"⟩, 46) := ⟨⟨by decide +kernel, by decide +kernel⟩, lw_t5 (List.mem_of_getElem? (i := 58) rfl), lw_t6 (List.mem_of_getElem? (i := 45) rfl), lw_t6 (List.mem_of_getElem? (i := 46) rfl)⟩
theorem lw_p38 : lw_okq (⟨"TermIdealsModel", "clauses", "()I"⟩, 46) := ⟨⟨by decide +kernel, by decide +kernel⟩, lw_t5 (List.mem_of_getElem? (i := 58) rfl), lw_t6 (List.mem_of_getElem? (i := 62) rfl), lw_t6 (List.mem_of_getElem? (i := 63) rfl)⟩
theorem lw_p39 : lw_okq (⟨"TermIdealsModel", "clause", "()I"⟩, 46) := ⟨⟨by decide +kernel, by decide +kernel⟩, lw_t5 (List.mem_of_getElem? (i := 58) rfl), lw_t6 (List.mem_of_getElem? (i := 66) rfl), lw_t6 (List.mem_of_getElem? (i := 67) rfl)⟩
theorem lw_p40 : lw_okq (⟨"TermIdealsModel", "isDone", "(I)Z"⟩, 46) := ⟨⟨by decide +kernel, by decide +kernel⟩, lw_t5 (List.mem_of_getElem? (i := 58) rfl), lw_t6 (List.mem_of_getElem? (i := 75) rfl), lw_t6 (List.mem_of_getElem? (i := 76) rfl)⟩
theorem lw_p41 : lw_okq (⟨"TermIdealsModel", "isLeast", "(II)Z"⟩, 46) := ⟨⟨by decide +kernel, by decide +kernel⟩, lw_t5 (List.mem_of_getElem? (i := 58) rfl), lw_t6 (List.mem_of_getElem? (i := 90) rfl), lw_t6 (List.mem_of_getElem? (i := 91) rfl)⟩
theorem lw_p42 : lw_okq (⟨"TermIdealsModel", "leastMany", "(I)I"⟩, 46) := ⟨⟨by decide +kernel, by decide +kernel⟩, lw_t5 (List.mem_of_getElem? (i := 58) rfl), lw_t6 (List.mem_of_getElem? (i := 99) rfl), lw_t6 (List.mem_of_getElem? (i := 100) rfl)⟩
theorem lw_p43 : lw_okq (⟨"TermIdealsModel", "asked", "(II)I"⟩, 46) := ⟨⟨by decide +kernel, by decide +kernel⟩, lw_t5 (List.mem_of_getElem? (i := 58) rfl), lw_t6 (List.mem_of_getElem? (i := 103) rfl), lw_t6 (List.mem_of_getElem? (i := 104) rfl)⟩
theorem lw_p44 : lw_okq (⟨"TermIdealsModel", "isClosed", "(I)Z"⟩, 46) := ⟨⟨by decide +kernel, by decide +kernel⟩, lw_t5 (List.mem_of_getElem? (i := 58) rfl), lw_t6 (List.mem_of_getElem? (i := 107) rfl), lw_t6 (List.mem_of_getElem? (i := 108) rfl)⟩
theorem lw_p45 : lw_okq (⟨"TermIdealsModel", "isWithin", "(III)Z"⟩, 46) := ⟨⟨by decide +kernel, by decide +kernel⟩, lw_t5 (List.mem_of_getElem? (i := 58) rfl), lw_t6 (List.mem_of_getElem? (i := 111) rfl), lw_t6 (List.mem_of_getElem? (i := 112) rfl)⟩
theorem lw_p46 : lw_okq (⟨"TermIdealsModel", "tellsJumps", "()V"⟩, 46) := ⟨⟨by decide +kernel, by decide +kernel⟩, lw_t5 (List.mem_of_getElem? (i := 58) rfl), lw_t6 (List.mem_of_getElem? (i := 115) rfl), lw_t6 (List.mem_of_getElem? (i := 116) rfl)⟩
theorem lw_p47 : lw_okq (⟨"TermIdealsModel", "jumpFace", "(II)I"⟩, 46) := ⟨⟨by decide +kernel, by decide +kernel⟩, lw_t5 (List.mem_of_getElem? (i := 58) rfl), lw_t6 (List.mem_of_getElem? (i := 119) rfl), lw_t6 (List.mem_of_getElem? (i := 120) rfl)⟩
def lw_privs_3 : List (MethodName × Nat) := [(⟨"TermIdealsModel", "tellsFaces", "(I)V"⟩, 46), (⟨"TermIdealsModel", "comesFace", "(III)V"⟩, 46), (⟨"TermIdealsModel", "levelOf", "(III)I"⟩, 46), (⟨"TermIdealsModel", "metBy", "(IIII)I"⟩, 46), (⟨"TermIdealsModel", "isCorner", "(II)Z"⟩, 46), (⟨"TermIdealsModel", "isInHull", "(II)Z"⟩, 46), (⟨"TermIdealsModel", "clauses", "()I"⟩, 46), (⟨"TermIdealsModel", "clause", "()I"⟩, 46), (⟨"TermIdealsModel", "isDone", "(I)Z"⟩, 46), (⟨"TermIdealsModel", "isLeast", "(II)Z"⟩, 46), (⟨"TermIdealsModel", "leastMany", "(I)I"⟩, 46), (⟨"TermIdealsModel", "asked", "(II)I"⟩, 46), (⟨"TermIdealsModel", "isClosed", "(I)Z"⟩, 46), (⟨"TermIdealsModel", "isWithin", "(III)Z"⟩, 46), (⟨"TermIdealsModel", "tellsJumps", "()V"⟩, 46), (⟨"TermIdealsModel", "jumpFace", "(II)I"⟩, 46)]
theorem lw_r3 : ∀ q ∈ lw_privs_3, lw_okq q := List.forall_mem_cons.mpr ⟨lw_p32, List.forall_mem_cons.mpr ⟨lw_p33, List.forall_mem_cons.mpr ⟨lw_p34, List.forall_mem_cons.mpr ⟨lw_p35, List.forall_mem_cons.mpr ⟨lw_p36, List.forall_mem_cons.mpr ⟨lw_p37, List.forall_mem_cons.mpr ⟨lw_p38, List.forall_mem_cons.mpr ⟨lw_p39, List.forall_mem_cons.mpr ⟨lw_p40, List.forall_mem_cons.mpr ⟨lw_p41, List.forall_mem_cons.mpr ⟨lw_p42, List.forall_mem_cons.mpr ⟨lw_p43, List.forall_mem_cons.mpr ⟨lw_p44, List.forall_mem_cons.mpr ⟨lw_p45, List.forall_mem_cons.mpr ⟨lw_p46, List.forall_mem_cons.mpr ⟨lw_p47, fun _ h => absurd h List.not_mem_nil⟩⟩⟩⟩⟩⟩⟩⟩⟩⟩⟩⟩⟩⟩⟩⟩
theorem lw_p48 : lw_okq (⟨"TermIdealsModel", "heavy", "(III)I"⟩, 46) := ⟨⟨by decide +kernel, by decide +kernel⟩, lw_t5 (List.mem_of_getElem? (i := 58) rfl), lw_t6 (List.mem_of_getElem? (i := 123) rfl), lw_t6 (List.mem_of_getElem? (i := 124) rfl)⟩
theorem lw_p49 : lw_okq (⟨"TermIdealsModel", "comesJump", "(II)V"⟩, 46) := ⟨⟨by decide +kernel, by decide +kernel⟩, lw_t5 (List.mem_of_getElem? (i := 58) rfl), lw_t6 (List.mem_of_getElem? (i := 130) rfl), lw_t6 (List.mem_of_getElem? (i := 131) rfl)⟩
theorem lw_p50 : lw_okq (⟨"TermIdealsModel", "barring", "(IIII)I"⟩, 46) := ⟨⟨by decide +kernel, by decide +kernel⟩, lw_t5 (List.mem_of_getElem? (i := 58) rfl), lw_t6 (List.mem_of_getElem? (i := 150) rfl), lw_t6 (List.mem_of_getElem? (i := 151) rfl)⟩
theorem lw_p51 : lw_okq (⟨"TermIdealsModel", "lacking", "(III)I"⟩, 46) := ⟨⟨by decide +kernel, by decide +kernel⟩, lw_t5 (List.mem_of_getElem? (i := 58) rfl), lw_t6 (List.mem_of_getElem? (i := 171) rfl), lw_t6 (List.mem_of_getElem? (i := 172) rfl)⟩
theorem lw_p52 : lw_okq (⟨"TermIdealsModel", "heightOf", "(II)I"⟩, 46) := ⟨⟨by decide +kernel, by decide +kernel⟩, lw_t5 (List.mem_of_getElem? (i := 58) rfl), lw_t6 (List.mem_of_getElem? (i := 182) rfl), lw_t6 (List.mem_of_getElem? (i := 183) rfl)⟩
theorem lw_p53 : lw_okq (⟨"TermIdealsModel", "powers", "(II)V"⟩, 46) := ⟨⟨by decide +kernel, by decide +kernel⟩, lw_t5 (List.mem_of_getElem? (i := 58) rfl), lw_t6 (List.mem_of_getElem? (i := 186) rfl), lw_t6 (List.mem_of_getElem? (i := 187) rfl)⟩
theorem lw_p54 : lw_okq (⟨"TermIdealsModel", "begins", "()V"⟩, 46) := ⟨⟨by decide +kernel, by decide +kernel⟩, lw_t5 (List.mem_of_getElem? (i := 58) rfl), lw_t6 (List.mem_of_getElem? (i := 190) rfl), lw_t6 (List.mem_of_getElem? (i := 191) rfl)⟩
theorem lw_p55 : lw_okq (⟨"TermIdealsModel", "times", "(I)V"⟩, 46) := ⟨⟨by decide +kernel, by decide +kernel⟩, lw_t5 (List.mem_of_getElem? (i := 58) rfl), lw_t6 (List.mem_of_getElem? (i := 194) rfl), lw_t6 (List.mem_of_getElem? (i := 195) rfl)⟩
theorem lw_p56 : lw_okq (⟨"TermIdealsModel", "heightAt", "(I)I"⟩, 46) := ⟨⟨by decide +kernel, by decide +kernel⟩, lw_t5 (List.mem_of_getElem? (i := 58) rfl), lw_t6 (List.mem_of_getElem? (i := 198) rfl), lw_t6 (List.mem_of_getElem? (i := 199) rfl)⟩
theorem lw_p57 : lw_okq (⟨"TermIdealsModel", "settles", "()V"⟩, 46) := ⟨⟨by decide +kernel, by decide +kernel⟩, lw_t5 (List.mem_of_getElem? (i := 58) rfl), lw_t6 (List.mem_of_getElem? (i := 202) rfl), lw_t6 (List.mem_of_getElem? (i := 203) rfl)⟩
theorem lw_p58 : lw_okq (⟨"TermIdealsModel", "sumHeight", "(I)I"⟩, 46) := ⟨⟨by decide +kernel, by decide +kernel⟩, lw_t5 (List.mem_of_getElem? (i := 58) rfl), lw_t6 (List.mem_of_getElem? (i := 206) rfl), lw_t6 (List.mem_of_getElem? (i := 207) rfl)⟩
theorem lw_p59 : lw_okq (⟨"TermIdealsModel", "isReduction", "()Z"⟩, 46) := ⟨⟨by decide +kernel, by decide +kernel⟩, lw_t5 (List.mem_of_getElem? (i := 58) rfl), lw_t6 (List.mem_of_getElem? (i := 214) rfl), lw_t6 (List.mem_of_getElem? (i := 215) rfl)⟩
theorem lw_p60 : lw_okq (⟨"TermIdealsModel", "isMetBy", "(I)Z"⟩, 46) := ⟨⟨by decide +kernel, by decide +kernel⟩, lw_t5 (List.mem_of_getElem? (i := 58) rfl), lw_t6 (List.mem_of_getElem? (i := 218) rfl), lw_t6 (List.mem_of_getElem? (i := 219) rfl)⟩
theorem lw_p61 : lw_okq (⟨"TermIdealsModel", "isSeen", "()Z"⟩, 46) := ⟨⟨by decide +kernel, by decide +kernel⟩, lw_t5 (List.mem_of_getElem? (i := 58) rfl), lw_t6 (List.mem_of_getElem? (i := 230) rfl), lw_t6 (List.mem_of_getElem? (i := 231) rfl)⟩
theorem lw_p62 : lw_okq (⟨"TermIdealsModel", "likens", "(II)V"⟩, 46) := ⟨⟨by decide +kernel, by decide +kernel⟩, lw_t5 (List.mem_of_getElem? (i := 58) rfl), lw_t7 (List.mem_of_getElem? (i := 12) rfl), lw_t7 (List.mem_of_getElem? (i := 13) rfl)⟩
theorem lw_p63 : lw_okq (⟨"TermIdealsModel", "happens", "(II)V"⟩, 46) := ⟨⟨by decide +kernel, by decide +kernel⟩, lw_t5 (List.mem_of_getElem? (i := 58) rfl), lw_t7 (List.mem_of_getElem? (i := 16) rfl), lw_t7 (List.mem_of_getElem? (i := 17) rfl)⟩
def lw_privs_4 : List (MethodName × Nat) := [(⟨"TermIdealsModel", "heavy", "(III)I"⟩, 46), (⟨"TermIdealsModel", "comesJump", "(II)V"⟩, 46), (⟨"TermIdealsModel", "barring", "(IIII)I"⟩, 46), (⟨"TermIdealsModel", "lacking", "(III)I"⟩, 46), (⟨"TermIdealsModel", "heightOf", "(II)I"⟩, 46), (⟨"TermIdealsModel", "powers", "(II)V"⟩, 46), (⟨"TermIdealsModel", "begins", "()V"⟩, 46), (⟨"TermIdealsModel", "times", "(I)V"⟩, 46), (⟨"TermIdealsModel", "heightAt", "(I)I"⟩, 46), (⟨"TermIdealsModel", "settles", "()V"⟩, 46), (⟨"TermIdealsModel", "sumHeight", "(I)I"⟩, 46), (⟨"TermIdealsModel", "isReduction", "()Z"⟩, 46), (⟨"TermIdealsModel", "isMetBy", "(I)Z"⟩, 46), (⟨"TermIdealsModel", "isSeen", "()Z"⟩, 46), (⟨"TermIdealsModel", "likens", "(II)V"⟩, 46), (⟨"TermIdealsModel", "happens", "(II)V"⟩, 46)]
theorem lw_r4 : ∀ q ∈ lw_privs_4, lw_okq q := List.forall_mem_cons.mpr ⟨lw_p48, List.forall_mem_cons.mpr ⟨lw_p49, List.forall_mem_cons.mpr ⟨lw_p50, List.forall_mem_cons.mpr ⟨lw_p51, List.forall_mem_cons.mpr ⟨lw_p52, List.forall_mem_cons.mpr ⟨lw_p53, List.forall_mem_cons.mpr ⟨lw_p54, List.forall_mem_cons.mpr ⟨lw_p55, List.forall_mem_cons.mpr ⟨lw_p56, List.forall_mem_cons.mpr ⟨lw_p57, List.forall_mem_cons.mpr ⟨lw_p58, List.forall_mem_cons.mpr ⟨lw_p59, List.forall_mem_cons.mpr ⟨lw_p60, List.forall_mem_cons.mpr ⟨lw_p61, List.forall_mem_cons.mpr ⟨lw_p62, List.forall_mem_cons.mpr ⟨lw_p63, fun _ h => absurd h List.not_mem_nil⟩⟩⟩⟩⟩⟩⟩⟩⟩⟩⟩⟩⟩⟩⟩⟩
theorem lw_p64 : lw_okq (⟨"TermIdealsModel", "lessens", "(I)V"⟩, 46) := ⟨⟨by decide +kernel, by decide +kernel⟩, lw_t5 (List.mem_of_getElem? (i := 58) rfl), lw_t7 (List.mem_of_getElem? (i := 20) rfl), lw_t7 (List.mem_of_getElem? (i := 21) rfl)⟩
def lw_privs_5 : List (MethodName × Nat) := [(⟨"TermIdealsModel", "lessens", "(I)V"⟩, 46)]
theorem lw_r5 : ∀ q ∈ lw_privs_5, lw_okq q := List.forall_mem_cons.mpr ⟨lw_p64, fun _ h => absurd h List.not_mem_nil⟩
def lw_privs : List (MethodName × Nat) := lw_privs_1 ++ (lw_privs_2 ++ (lw_privs_3 ++ (lw_privs_4 ++ (lw_privs_5))))
def lw_tbl : List Cond := k2_sels lw_privs ++ tables_1
theorem lw_privs_ok : ∀ q ∈ lw_privs, lw_okq q := by
  show ∀ q ∈ lw_privs_1 ++ (lw_privs_2 ++ (lw_privs_3 ++ (lw_privs_4 ++ (lw_privs_5)))), lw_okq q
  exact List.forall_mem_append.mpr ⟨lw_r1, List.forall_mem_append.mpr ⟨lw_r2, List.forall_mem_append.mpr ⟨lw_r3, List.forall_mem_append.mpr ⟨lw_r4, lw_r5⟩⟩⟩⟩
-- ===== ONE list of words for every method: the tables' words that hold all through a run =====
def lw_all : List Cond := lw_tbl.filter goodWord
/-- a word of the tables by its place: claim/WORDS.tsv -/
theorem lw_w {w : Cond} (i : Nat) (h : lw_tbl[i]? = some w) (g : goodWord w = true) : w ∈ lw_all := List.mem_filter.mpr ⟨List.mem_of_getElem? h, g⟩
theorem lw_all_tbl {w : Cond} (h : w ∈ lw_all) : w ∈ lw_tbl := (List.mem_filter.mp h).1
theorem lw_self : GoodIn lw_all lw_all := fun w h => ⟨h, good_of_word (List.mem_filter.mp h).2⟩
/-- a class's field words, by their places -/
theorem lw_in (ws : List Cond) (ps : List Nat) (hp : ws = ps.filterMap (fun i => lw_tbl[i]?)) (hg : ws.all goodWord = true) : ∀ w ∈ ws, w ∈ lw_all := by
  intro w h
  have h1 := List.all_eq_true.mp hg w h
  rw [hp] at h
  obtain ⟨i, -, hi⟩ := List.mem_filterMap.mp h
  exact lw_w i hi h1
/-- the words of a contract for the method y with code b, L locals, answer r -/
abbrev ws_ (y : MethodName) (b : ByteArray) (L : Nat) (r : Option FieldType) : List Cond := Cond.code y b L r :: lw_all
theorem lw_meth {y : MethodName} {b : ByteArray} {L : Nat} {r : Option FieldType} (h : Cond.code y b L r ∈ lw_all) : GoodIn lw_all (ws_ y b L r) := by
  intro w hw
  rcases List.mem_cons.mp hw with e | e
  · rw [e]
    exact lw_self _ h
  · exact lw_self _ e
theorem lw_app {a c : List Cond} (ha : ∀ w ∈ a, w ∈ lw_all) (hc : GoodIn lw_all c) : GoodIn lw_all (a ++ c) := by
  intro w hw
  rcases List.mem_append.mp hw with e | e
  · exact lw_self w (ha w e)
  · exact hc w e
/-- what a call through an object asks: cwV n hts (lw_V ..) -/
theorem lw_V {own : String} {idx : Nat} {C : String} {y : MethodName} {b : ByteArray} {L : Nat} {r : Option FieldType} (h1 : Cond.methodLink own idx y ∈ lw_all) (h2 : Cond.instanceMethod y ∈ lw_all) (h3 : Cond.selects C y y ∈ lw_all) (h4 : Cond.initialized C ∈ lw_all) (h5 : Cond.code y b L r ∈ lw_all) : GoodIn lw_all (wsV own idx C y (ws_ y b L r)) := by
  refine lw_app ?_ (lw_meth h5)
  intro w hw
  simp only [List.mem_cons, List.not_mem_nil, or_false] at hw
  rcases hw with e | e | e | e
  · rw [e]; exact h1
  · rw [e]; exact h2
  · rw [e]; exact h3
  · rw [e]; exact h4
/-- what a static call asks: va_cwS n hts (lw_S ..) -/
theorem lw_S {own : String} {idx : Nat} {y : MethodName} {b : ByteArray} {L : Nat} {r : Option FieldType} (h1 : Cond.methodLink own idx y ∈ lw_all) (h2 : Cond.static y ∈ lw_all) (h3 : Cond.initialized y.cls ∈ lw_all) (h4 : Cond.code y b L r ∈ lw_all) : GoodIn lw_all (va_wsS own idx y (ws_ y b L r)) := by
  refine lw_app ?_ (lw_meth h4)
  intro w hw
  simp only [List.mem_cons, List.not_mem_nil, or_false] at hw
  rcases hw with e | e | e
  · rw [e]; exact h1
  · rw [e]; exact h2
  · rw [e]; exact h3
/-- the words of a contract for a method WITH HANDLERS (hh: its table) -/
abbrev wsW_ (y : MethodName) (b : ByteArray) (L : Nat) (r : Option FieldType) (hh : List (Nat × Nat × Nat × Nat)) : List Cond := Cond.codeWith y b L r hh :: lw_all
theorem lw_methW {y : MethodName} {b : ByteArray} {L : Nat} {r : Option FieldType} {hh : List (Nat × Nat × Nat × Nat)} (h : Cond.codeWith y b L r hh ∈ lw_all) : GoodIn lw_all (wsW_ y b L r hh) := by
  intro w hw
  rcases List.mem_cons.mp hw with e | e
  · rw [e]
    exact lw_self _ h
  · exact lw_self _ e
/-- any list of words by their places (lw_in), good -/
theorem lw_good {ws : List Cond} (h : ∀ w ∈ ws, w ∈ lw_all) : GoodIn lw_all ws := fun w hw => lw_self w (h w hw)
/-- what a call of a method with handlers asks: vx_cwVW n hts (lw_VW ..), vx_cwSW n hts (lw_SW ..) -/
theorem lw_VW {own : String} {idx : Nat} {C : String} {y : MethodName} {b : ByteArray} {L : Nat} {r : Option FieldType} {hh : List (Nat × Nat × Nat × Nat)} (h1 : Cond.methodLink own idx y ∈ lw_all) (h2 : Cond.instanceMethod y ∈ lw_all) (h3 : Cond.selects C y y ∈ lw_all) (h4 : Cond.initialized C ∈ lw_all) (h5 : Cond.codeWith y b L r hh ∈ lw_all) : GoodIn lw_all (wsV own idx C y (wsW_ y b L r hh)) := by
  refine lw_app ?_ (lw_methW h5)
  intro w hw
  simp only [List.mem_cons, List.not_mem_nil, or_false] at hw
  rcases hw with e | e | e | e
  · rw [e]; exact h1
  · rw [e]; exact h2
  · rw [e]; exact h3
  · rw [e]; exact h4
theorem lw_SW {own : String} {idx : Nat} {y : MethodName} {b : ByteArray} {L : Nat} {r : Option FieldType} {hh : List (Nat × Nat × Nat × Nat)} (h1 : Cond.methodLink own idx y ∈ lw_all) (h2 : Cond.static y ∈ lw_all) (h3 : Cond.initialized y.cls ∈ lw_all) (h4 : Cond.codeWith y b L r hh ∈ lw_all) : GoodIn lw_all (va_wsS own idx y (wsW_ y b L r hh)) := by
  refine lw_app ?_ (lw_methW h4)
  intro w hw
  simp only [List.mem_cons, List.not_mem_nil, or_false] at hw
  rcases hw with e | e | e
  · rw [e]; exact h1
  · rw [e]; exact h2
  · rw [e]; exact h3
/-- a word by its place in its run of the tables -/
theorem lw_at {r : List Cond} (hr : ∀ w ∈ r, w ∈ lw_tbl) {w : Cond} (i : Nat) (h : r[i]? = some w) : w ∈ lw_tbl := hr w (List.mem_of_getElem? h)
theorem lw_g {w : Cond} (h : w ∈ lw_tbl) (g : goodWord w = true) : w ∈ lw_all := List.mem_filter.mpr ⟨h, g⟩
theorem lw_ms : ∀ w ∈ k2_sels lw_privs, w ∈ lw_tbl := fun w h => show w ∈ k2_sels lw_privs ++ tables_1 from List.mem_append_left _ h
theorem lw_m1 : ∀ w ∈ tables_1_1, w ∈ lw_tbl := fun w h => show w ∈ k2_sels lw_privs ++ tables_1 from List.mem_append_right (k2_sels lw_privs) (show w ∈ tables_1 from List.mem_append_left _ h)
theorem lw_m2 : ∀ w ∈ tables_1_2, w ∈ lw_tbl := fun w h => show w ∈ k2_sels lw_privs ++ tables_1 from List.mem_append_right (k2_sels lw_privs) (show w ∈ tables_1 from List.mem_append_right _ (List.mem_append_left _ h))
theorem lw_m3 : ∀ w ∈ tables_1_3, w ∈ lw_tbl := fun w h => show w ∈ k2_sels lw_privs ++ tables_1 from List.mem_append_right (k2_sels lw_privs) (show w ∈ tables_1 from List.mem_append_right _ (List.mem_append_right _ (List.mem_append_left _ h)))
theorem lw_m4 : ∀ w ∈ tables_1_4, w ∈ lw_tbl := fun w h => show w ∈ k2_sels lw_privs ++ tables_1 from List.mem_append_right (k2_sels lw_privs) (show w ∈ tables_1 from List.mem_append_right _ (List.mem_append_right _ (List.mem_append_right _ (List.mem_append_left _ h))))
theorem lw_m5 : ∀ w ∈ tables_1_5, w ∈ lw_tbl := fun w h => show w ∈ k2_sels lw_privs ++ tables_1 from List.mem_append_right (k2_sels lw_privs) (show w ∈ tables_1 from List.mem_append_right _ (List.mem_append_right _ (List.mem_append_right _ (List.mem_append_right _ (List.mem_append_left _ h)))))
theorem lw_m6 : ∀ w ∈ tables_1_6, w ∈ lw_tbl := fun w h => show w ∈ k2_sels lw_privs ++ tables_1 from List.mem_append_right (k2_sels lw_privs) (show w ∈ tables_1 from List.mem_append_right _ (List.mem_append_right _ (List.mem_append_right _ (List.mem_append_right _ (List.mem_append_right _ (List.mem_append_left _ h))))))
theorem lw_m7 : ∀ w ∈ tables_1_7, w ∈ lw_tbl := fun w h => show w ∈ k2_sels lw_privs ++ tables_1 from List.mem_append_right (k2_sels lw_privs) (show w ∈ tables_1 from List.mem_append_right _ (List.mem_append_right _ (List.mem_append_right _ (List.mem_append_right _ (List.mem_append_right _ (List.mem_append_right _ h))))))
theorem qs0 : (Cond.selects "TermIdeals" ⟨"TermIdeals", "isGenerator", "(II)Z"⟩ ⟨"TermIdeals", "isGenerator", "(II)Z"⟩) ∈ lw_all := lw_g (lw_at lw_ms 0 rfl) rfl
theorem qs1 : (Cond.selects "TermIdeals" ⟨"TermIdeals", "becomes", "(I)I"⟩ ⟨"TermIdeals", "becomes", "(I)I"⟩) ∈ lw_all := lw_g (lw_at lw_ms 1 rfl) rfl
theorem qs2 : (Cond.selects "java/lang/NullPointerException" ⟨"java/lang/NullPointerException", "getExtendedNPEMessage", "()Ljava/lang/String;"⟩ ⟨"java/lang/NullPointerException", "getExtendedNPEMessage", "()Ljava/lang/String;"⟩) ∈ lw_all := lw_g (lw_at lw_ms 2 rfl) rfl
theorem qs3 : (Cond.selects "java/lang/Throwable" ⟨"java/lang/Throwable", "fillInStackTrace", "(I)Ljava/lang/Throwable;"⟩ ⟨"java/lang/Throwable", "fillInStackTrace", "(I)Ljava/lang/Throwable;"⟩) ∈ lw_all := lw_g (lw_at lw_ms 3 rfl) rfl
theorem qs4 : (Cond.selects "TermIdeals$Faces" ⟨"TermIdeals$Faces", "comes", "(II)V"⟩ ⟨"TermIdeals$Faces", "comes", "(II)V"⟩) ∈ lw_all := lw_g (lw_at lw_ms 4 rfl) rfl
theorem qs5 : (Cond.selects "TermIdeals$Faces" ⟨"TermIdeals$Faces", "level", "(II)I"⟩ ⟨"TermIdeals$Faces", "level", "(II)I"⟩) ∈ lw_all := lw_g (lw_at lw_ms 5 rfl) rfl
theorem qs6 : (Cond.selects "TermIdeals$Faces" ⟨"TermIdeals$Faces", "isFace", "(III)Z"⟩ ⟨"TermIdeals$Faces", "isFace", "(III)Z"⟩) ∈ lw_all := lw_g (lw_at lw_ms 6 rfl) rfl
theorem qs7 : (Cond.selects "TermIdeals" ⟨"TermIdeals", "isCorner", "(II)Z"⟩ ⟨"TermIdeals", "isCorner", "(II)Z"⟩) ∈ lw_all := lw_g (lw_at lw_ms 7 rfl) rfl
theorem qs8 : (Cond.selects "TermIdeals$Reader" ⟨"TermIdeals$Reader", "clause", "()LTermIdeals$Clause;"⟩ ⟨"TermIdeals$Reader", "clause", "()LTermIdeals$Clause;"⟩) ∈ lw_all := lw_g (lw_at lw_ms 8 rfl) rfl
theorem qs9 : (Cond.selects "TermIdeals$Reader" ⟨"TermIdeals$Reader", "here", "()I"⟩ ⟨"TermIdeals$Reader", "here", "()I"⟩) ∈ lw_all := lw_g (lw_at lw_ms 9 rfl) rfl
theorem qs10 : (Cond.selects "TermIdeals$Reader" ⟨"TermIdeals$Reader", "digit", "()I"⟩ ⟨"TermIdeals$Reader", "digit", "()I"⟩) ∈ lw_all := lw_g (lw_at lw_ms 10 rfl) rfl
theorem qs11 : (Cond.selects "TermIdeals$Faces" ⟨"TermIdeals$Faces", "weight", "(III)I"⟩ ⟨"TermIdeals$Faces", "weight", "(III)I"⟩) ∈ lw_all := lw_g (lw_at lw_ms 11 rfl) rfl
theorem qs12 : (Cond.selects "TermIdeals$Faces" ⟨"TermIdeals$Faces", "notes", "()V"⟩ ⟨"TermIdeals$Faces", "notes", "()V"⟩) ∈ lw_all := lw_g (lw_at lw_ms 12 rfl) rfl
theorem qs13 : (Cond.selects "TermIdeals" ⟨"TermIdeals", "asks", "(IIIII)V"⟩ ⟨"TermIdeals", "asks", "(IIIII)V"⟩) ∈ lw_all := lw_g (lw_at lw_ms 13 rfl) rfl
theorem qs14 : (Cond.selects "TermIdeals$Faces" ⟨"TermIdeals$Faces", "asks", "(IIIII)V"⟩ ⟨"TermIdeals$Faces", "asks", "(IIIII)V"⟩) ∈ lw_all := lw_g (lw_at lw_ms 14 rfl) rfl
theorem qs15 : (Cond.selects "TermIdeals$Faces" ⟨"TermIdeals$Faces", "weighs", "(IIIII)V"⟩ ⟨"TermIdeals$Faces", "weighs", "(IIIII)V"⟩) ∈ lw_all := lw_g (lw_at lw_ms 15 rfl) rfl
theorem qs16 : (Cond.selects "TermIdeals" ⟨"TermIdeals", "powers", "(LTermIdeals$Ideal;I)V"⟩ ⟨"TermIdeals", "powers", "(LTermIdeals$Ideal;I)V"⟩) ∈ lw_all := lw_g (lw_at lw_ms 16 rfl) rfl
theorem qs17 : (Cond.selects "TermIdeals" ⟨"TermIdeals", "isReduction", "()Z"⟩ ⟨"TermIdeals", "isReduction", "()Z"⟩) ∈ lw_all := lw_g (lw_at lw_ms 17 rfl) rfl
theorem qs18 : (Cond.selects "TermIdeals" ⟨"TermIdeals", "met", "()I"⟩ ⟨"TermIdeals", "met", "()I"⟩) ∈ lw_all := lw_g (lw_at lw_ms 18 rfl) rfl
theorem qs19 : (Cond.selects "TermIdeals" ⟨"TermIdeals", "areSo", "(LTermIdeals$Ideal;)Z"⟩ ⟨"TermIdeals", "areSo", "(LTermIdeals$Ideal;)Z"⟩) ∈ lw_all := lw_g (lw_at lw_ms 19 rfl) rfl
theorem qs20 : (Cond.selects "TermIdeals" ⟨"TermIdeals", "happens", "(II)V"⟩ ⟨"TermIdeals", "happens", "(II)V"⟩) ∈ lw_all := lw_g (lw_at lw_ms 20 rfl) rfl
theorem qs21 : (Cond.selects "TermIdeals" ⟨"TermIdeals", "firstOther", "(LTermIdeals$Ideal;[BI)I"⟩ ⟨"TermIdeals", "firstOther", "(LTermIdeals$Ideal;[BI)I"⟩) ∈ lw_all := lw_g (lw_at lw_ms 21 rfl) rfl
theorem qs22 : (Cond.selects "TermIdeals" ⟨"TermIdeals", "both", "()I"⟩ ⟨"TermIdeals", "both", "()I"⟩) ∈ lw_all := lw_g (lw_at lw_ms 22 rfl) rfl
theorem qs23 : (Cond.selects "TermIdeals$Tape" ⟨"TermIdeals$Tape", "has", "(I)V"⟩ ⟨"TermIdeals$Tape", "has", "(I)V"⟩) ∈ lw_all := lw_g (lw_at lw_ms 23 rfl) rfl
theorem qs24 : (Cond.selects "TermIdeals$Tape" ⟨"TermIdeals$Tape", "size", "()I"⟩ ⟨"TermIdeals$Tape", "size", "()I"⟩) ∈ lw_all := lw_g (lw_at lw_ms 24 rfl) rfl
theorem qs25 : (Cond.selects "TermIdealsModel" ⟨"TermIdealsModel", "which", "(III)I"⟩ ⟨"TermIdealsModel", "which", "(III)I"⟩) ∈ lw_all := lw_g (lw_at lw_ms 25 rfl) rfl
theorem qs26 : (Cond.selects "TermIdealsModel" ⟨"TermIdealsModel", "a", "(II)I"⟩ ⟨"TermIdealsModel", "a", "(II)I"⟩) ∈ lw_all := lw_g (lw_at lw_ms 26 rfl) rfl
theorem qs27 : (Cond.selects "TermIdealsModel" ⟨"TermIdealsModel", "b", "(II)I"⟩ ⟨"TermIdealsModel", "b", "(II)I"⟩) ∈ lw_all := lw_g (lw_at lw_ms 27 rfl) rfl
theorem qs28 : (Cond.selects "TermIdealsModel" ⟨"TermIdealsModel", "deed", "(I)V"⟩ ⟨"TermIdealsModel", "deed", "(I)V"⟩) ∈ lw_all := lw_g (lw_at lw_ms 28 rfl) rfl
theorem qs29 : (Cond.selects "TermIdealsModel" ⟨"TermIdealsModel", "comes", "(III)V"⟩ ⟨"TermIdealsModel", "comes", "(III)V"⟩) ∈ lw_all := lw_g (lw_at lw_ms 29 rfl) rfl
theorem qs30 : (Cond.selects "TermIdealsModel" ⟨"TermIdealsModel", "isGenerator", "(II)Z"⟩ ⟨"TermIdealsModel", "isGenerator", "(II)Z"⟩) ∈ lw_all := lw_g (lw_at lw_ms 30 rfl) rfl
theorem qs31 : (Cond.selects "TermIdealsModel" ⟨"TermIdealsModel", "goes", "(II)V"⟩ ⟨"TermIdealsModel", "goes", "(II)V"⟩) ∈ lw_all := lw_g (lw_at lw_ms 31 rfl) rfl
theorem qs32 : (Cond.selects "TermIdealsModel" ⟨"TermIdealsModel", "tellsFaces", "(I)V"⟩ ⟨"TermIdealsModel", "tellsFaces", "(I)V"⟩) ∈ lw_all := lw_g (lw_at lw_ms 32 rfl) rfl
theorem qs33 : (Cond.selects "TermIdealsModel" ⟨"TermIdealsModel", "comesFace", "(III)V"⟩ ⟨"TermIdealsModel", "comesFace", "(III)V"⟩) ∈ lw_all := lw_g (lw_at lw_ms 33 rfl) rfl
theorem qs34 : (Cond.selects "TermIdealsModel" ⟨"TermIdealsModel", "levelOf", "(III)I"⟩ ⟨"TermIdealsModel", "levelOf", "(III)I"⟩) ∈ lw_all := lw_g (lw_at lw_ms 34 rfl) rfl
theorem qs35 : (Cond.selects "TermIdealsModel" ⟨"TermIdealsModel", "metBy", "(IIII)I"⟩ ⟨"TermIdealsModel", "metBy", "(IIII)I"⟩) ∈ lw_all := lw_g (lw_at lw_ms 35 rfl) rfl
theorem qs36 : (Cond.selects "TermIdealsModel" ⟨"TermIdealsModel", "isCorner", "(II)Z"⟩ ⟨"TermIdealsModel", "isCorner", "(II)Z"⟩) ∈ lw_all := lw_g (lw_at lw_ms 36 rfl) rfl
theorem qs37 : (Cond.selects "TermIdealsModel" ⟨"TermIdealsModel", "isInHull", "(II)Z"⟩ ⟨"TermIdealsModel", "isInHull", "(II)Z"⟩) ∈ lw_all := lw_g (lw_at lw_ms 37 rfl) rfl
theorem qs38 : (Cond.selects "TermIdealsModel" ⟨"TermIdealsModel", "clauses", "()I"⟩ ⟨"TermIdealsModel", "clauses", "()I"⟩) ∈ lw_all := lw_g (lw_at lw_ms 38 rfl) rfl
theorem qs39 : (Cond.selects "TermIdealsModel" ⟨"TermIdealsModel", "clause", "()I"⟩ ⟨"TermIdealsModel", "clause", "()I"⟩) ∈ lw_all := lw_g (lw_at lw_ms 39 rfl) rfl
theorem qs40 : (Cond.selects "TermIdealsModel" ⟨"TermIdealsModel", "isDone", "(I)Z"⟩ ⟨"TermIdealsModel", "isDone", "(I)Z"⟩) ∈ lw_all := lw_g (lw_at lw_ms 40 rfl) rfl
theorem qs41 : (Cond.selects "TermIdealsModel" ⟨"TermIdealsModel", "isLeast", "(II)Z"⟩ ⟨"TermIdealsModel", "isLeast", "(II)Z"⟩) ∈ lw_all := lw_g (lw_at lw_ms 41 rfl) rfl
theorem qs42 : (Cond.selects "TermIdealsModel" ⟨"TermIdealsModel", "leastMany", "(I)I"⟩ ⟨"TermIdealsModel", "leastMany", "(I)I"⟩) ∈ lw_all := lw_g (lw_at lw_ms 42 rfl) rfl
theorem qs43 : (Cond.selects "TermIdealsModel" ⟨"TermIdealsModel", "asked", "(II)I"⟩ ⟨"TermIdealsModel", "asked", "(II)I"⟩) ∈ lw_all := lw_g (lw_at lw_ms 43 rfl) rfl
theorem qs44 : (Cond.selects "TermIdealsModel" ⟨"TermIdealsModel", "isClosed", "(I)Z"⟩ ⟨"TermIdealsModel", "isClosed", "(I)Z"⟩) ∈ lw_all := lw_g (lw_at lw_ms 44 rfl) rfl
theorem qs45 : (Cond.selects "TermIdealsModel" ⟨"TermIdealsModel", "isWithin", "(III)Z"⟩ ⟨"TermIdealsModel", "isWithin", "(III)Z"⟩) ∈ lw_all := lw_g (lw_at lw_ms 45 rfl) rfl
theorem qs46 : (Cond.selects "TermIdealsModel" ⟨"TermIdealsModel", "tellsJumps", "()V"⟩ ⟨"TermIdealsModel", "tellsJumps", "()V"⟩) ∈ lw_all := lw_g (lw_at lw_ms 46 rfl) rfl
theorem qs47 : (Cond.selects "TermIdealsModel" ⟨"TermIdealsModel", "jumpFace", "(II)I"⟩ ⟨"TermIdealsModel", "jumpFace", "(II)I"⟩) ∈ lw_all := lw_g (lw_at lw_ms 47 rfl) rfl
theorem qs48 : (Cond.selects "TermIdealsModel" ⟨"TermIdealsModel", "heavy", "(III)I"⟩ ⟨"TermIdealsModel", "heavy", "(III)I"⟩) ∈ lw_all := lw_g (lw_at lw_ms 48 rfl) rfl
theorem qs49 : (Cond.selects "TermIdealsModel" ⟨"TermIdealsModel", "comesJump", "(II)V"⟩ ⟨"TermIdealsModel", "comesJump", "(II)V"⟩) ∈ lw_all := lw_g (lw_at lw_ms 49 rfl) rfl
theorem qs50 : (Cond.selects "TermIdealsModel" ⟨"TermIdealsModel", "barring", "(IIII)I"⟩ ⟨"TermIdealsModel", "barring", "(IIII)I"⟩) ∈ lw_all := lw_g (lw_at lw_ms 50 rfl) rfl
theorem qs51 : (Cond.selects "TermIdealsModel" ⟨"TermIdealsModel", "lacking", "(III)I"⟩ ⟨"TermIdealsModel", "lacking", "(III)I"⟩) ∈ lw_all := lw_g (lw_at lw_ms 51 rfl) rfl
theorem qs52 : (Cond.selects "TermIdealsModel" ⟨"TermIdealsModel", "heightOf", "(II)I"⟩ ⟨"TermIdealsModel", "heightOf", "(II)I"⟩) ∈ lw_all := lw_g (lw_at lw_ms 52 rfl) rfl
theorem qs53 : (Cond.selects "TermIdealsModel" ⟨"TermIdealsModel", "powers", "(II)V"⟩ ⟨"TermIdealsModel", "powers", "(II)V"⟩) ∈ lw_all := lw_g (lw_at lw_ms 53 rfl) rfl
theorem qs54 : (Cond.selects "TermIdealsModel" ⟨"TermIdealsModel", "begins", "()V"⟩ ⟨"TermIdealsModel", "begins", "()V"⟩) ∈ lw_all := lw_g (lw_at lw_ms 54 rfl) rfl
theorem qs55 : (Cond.selects "TermIdealsModel" ⟨"TermIdealsModel", "times", "(I)V"⟩ ⟨"TermIdealsModel", "times", "(I)V"⟩) ∈ lw_all := lw_g (lw_at lw_ms 55 rfl) rfl
theorem qs56 : (Cond.selects "TermIdealsModel" ⟨"TermIdealsModel", "heightAt", "(I)I"⟩ ⟨"TermIdealsModel", "heightAt", "(I)I"⟩) ∈ lw_all := lw_g (lw_at lw_ms 56 rfl) rfl
theorem qs57 : (Cond.selects "TermIdealsModel" ⟨"TermIdealsModel", "settles", "()V"⟩ ⟨"TermIdealsModel", "settles", "()V"⟩) ∈ lw_all := lw_g (lw_at lw_ms 57 rfl) rfl
theorem qs58 : (Cond.selects "TermIdealsModel" ⟨"TermIdealsModel", "sumHeight", "(I)I"⟩ ⟨"TermIdealsModel", "sumHeight", "(I)I"⟩) ∈ lw_all := lw_g (lw_at lw_ms 58 rfl) rfl
theorem qs59 : (Cond.selects "TermIdealsModel" ⟨"TermIdealsModel", "isReduction", "()Z"⟩ ⟨"TermIdealsModel", "isReduction", "()Z"⟩) ∈ lw_all := lw_g (lw_at lw_ms 59 rfl) rfl
theorem qs60 : (Cond.selects "TermIdealsModel" ⟨"TermIdealsModel", "isMetBy", "(I)Z"⟩ ⟨"TermIdealsModel", "isMetBy", "(I)Z"⟩) ∈ lw_all := lw_g (lw_at lw_ms 60 rfl) rfl
theorem qs61 : (Cond.selects "TermIdealsModel" ⟨"TermIdealsModel", "isSeen", "()Z"⟩ ⟨"TermIdealsModel", "isSeen", "()Z"⟩) ∈ lw_all := lw_g (lw_at lw_ms 61 rfl) rfl
theorem qs62 : (Cond.selects "TermIdealsModel" ⟨"TermIdealsModel", "likens", "(II)V"⟩ ⟨"TermIdealsModel", "likens", "(II)V"⟩) ∈ lw_all := lw_g (lw_at lw_ms 62 rfl) rfl
theorem qs63 : (Cond.selects "TermIdealsModel" ⟨"TermIdealsModel", "happens", "(II)V"⟩ ⟨"TermIdealsModel", "happens", "(II)V"⟩) ∈ lw_all := lw_g (lw_at lw_ms 63 rfl) rfl
theorem qs64 : (Cond.selects "TermIdealsModel" ⟨"TermIdealsModel", "lessens", "(I)V"⟩ ⟨"TermIdealsModel", "lessens", "(I)V"⟩) ∈ lw_all := lw_g (lw_at lw_ms 64 rfl) rfl
-- ===== end of PART A; then your names; then what follows =====
