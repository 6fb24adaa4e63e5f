-- ===== PART A: goes FIRST, ahead of the names: the tables' words, and 'selects' of the private methods out of them =====
/-- a private method of a class that the tables say can be made, by its rows of tables_1 -/
def lw_okq (q : MethodName × Nat) : Prop := (q.1.cls ≠ "java/lang/invoke/MethodHandle" ∧ q.1.cls ≠ "java/lang/invoke/VarHandle") ∧ Cond.instantiable q.1.cls q.2 ∈ tables_1 ∧ Cond.privateMethod q.1 ∈ tables_1 ∧ Cond.instanceMethod q.1 ∈ tables_1
set_option maxRecDepth 100000
theorem lw_t1 {w : Cond} (h : w ∈ tables_1_1) : w ∈ tables_1 := List.mem_append_left _ h
theorem lw_t2 {w : Cond} (h : w ∈ tables_1_2) : w ∈ tables_1 := List.mem_append_right _ (List.mem_append_left _ h)
theorem lw_t3 {w : Cond} (h : w ∈ tables_1_3) : w ∈ tables_1 := List.mem_append_right _ (List.mem_append_right _ (List.mem_append_left _ h))
theorem lw_t4 {w : Cond} (h : w ∈ tables_1_4) : w ∈ tables_1 := List.mem_append_right _ (List.mem_append_right _ (List.mem_append_right _ (List.mem_append_left _ h)))
theorem lw_t5 {w : Cond} (h : w ∈ tables_1_5) : w ∈ tables_1 := List.mem_append_right _ (List.mem_append_right _ (List.mem_append_right _ (List.mem_append_right _ (List.mem_append_left _ h))))
theorem lw_t6 {w : Cond} (h : w ∈ tables_1_6) : w ∈ tables_1 := List.mem_append_right _ (List.mem_append_right _ (List.mem_append_right _ (List.mem_append_right _ (List.mem_append_right _ (List.mem_append_left _ h)))))
theorem lw_t7 {w : Cond} (h : w ∈ tables_1_7) : w ∈ tables_1 := List.mem_append_right _ (List.mem_append_right _ (List.mem_append_right _ (List.mem_append_right _ (List.mem_append_right _ (List.mem_append_right _ (List.mem_append_left _ h))))))
theorem lw_t8 {w : Cond} (h : w ∈ tables_1_8) : w ∈ tables_1 := List.mem_append_right _ (List.mem_append_right _ (List.mem_append_right _ (List.mem_append_right _ (List.mem_append_right _ (List.mem_append_right _ (List.mem_append_right _ h))))))
theorem lw_p0 : lw_okq (⟨"PennyJudge", "isProgram", "(I)Z"⟩, 25) := ⟨⟨by decide +kernel, by decide +kernel⟩, lw_t1 (List.mem_of_getElem? (i := 39) rfl), lw_t2 (List.mem_of_getElem? (i := 100) rfl), lw_t2 (List.mem_of_getElem? (i := 101) rfl)⟩
theorem lw_p1 : lw_okq (⟨"PennyJudge", "share", "(JII[J)V"⟩, 25) := ⟨⟨by decide +kernel, by decide +kernel⟩, lw_t1 (List.mem_of_getElem? (i := 39) rfl), lw_t3 (List.mem_of_getElem? (i := 215) rfl), lw_t3 (List.mem_of_getElem? (i := 216) rfl)⟩
theorem lw_p2 : lw_okq (⟨"PennyJudge", "wholeWeight", "(I)I"⟩, 25) := ⟨⟨by decide +kernel, by decide +kernel⟩, lw_t1 (List.mem_of_getElem? (i := 39) rfl), lw_t3 (List.mem_of_getElem? (i := 219) rfl), lw_t3 (List.mem_of_getElem? (i := 220) rfl)⟩
theorem lw_p3 : lw_okq (⟨"PennyJudge", "weightOf", "(III)I"⟩, 25) := ⟨⟨by decide +kernel, by decide +kernel⟩, lw_t1 (List.mem_of_getElem? (i := 39) rfl), lw_t3 (List.mem_of_getElem? (i := 223) rfl), lw_t3 (List.mem_of_getElem? (i := 224) rfl)⟩
theorem lw_p4 : lw_okq (⟨"PennyJudge", "firstBreak", "(LPennyJudge$Program;ILPennyJudge$Program;II)I"⟩, 25) := ⟨⟨by decide +kernel, by decide +kernel⟩, lw_t1 (List.mem_of_getElem? (i := 39) rfl), lw_t4 (List.mem_of_getElem? (i := 25) rfl), lw_t4 (List.mem_of_getElem? (i := 26) rfl)⟩
theorem lw_p5 : lw_okq (⟨"PennyJudge", "breaksLaw", "(LPennyJudge$Program;ILPennyJudge$Program;I)Z"⟩, 25) := ⟨⟨by decide +kernel, by decide +kernel⟩, lw_t1 (List.mem_of_getElem? (i := 39) rfl), lw_t4 (List.mem_of_getElem? (i := 29) rfl), lw_t4 (List.mem_of_getElem? (i := 30) rfl)⟩
theorem lw_p6 : lw_okq (⟨"PennyJudge", "runs", "(LPennyJudge$Program;LPennyJudge$Run;I)Z"⟩, 25) := ⟨⟨by decide +kernel, by decide +kernel⟩, lw_t1 (List.mem_of_getElem? (i := 39) rfl), lw_t4 (List.mem_of_getElem? (i := 33) rfl), lw_t4 (List.mem_of_getElem? (i := 34) rfl)⟩
theorem lw_p7 : lw_okq (⟨"PennyJudge", "alike", "(I)Z"⟩, 25) := ⟨⟨by decide +kernel, by decide +kernel⟩, lw_t1 (List.mem_of_getElem? (i := 39) rfl), lw_t4 (List.mem_of_getElem? (i := 42) rfl), lw_t4 (List.mem_of_getElem? (i := 43) rfl)⟩
theorem lw_p8 : lw_okq (⟨"PennyJudge", "farShare", "()Z"⟩, 25) := ⟨⟨by decide +kernel, by decide +kernel⟩, lw_t1 (List.mem_of_getElem? (i := 39) rfl), lw_t4 (List.mem_of_getElem? (i := 46) rfl), lw_t4 (List.mem_of_getElem? (i := 47) rfl)⟩
theorem lw_p9 : lw_okq (⟨"PennyJudge", "turn", "(I)Z"⟩, 25) := ⟨⟨by decide +kernel, by decide +kernel⟩, lw_t1 (List.mem_of_getElem? (i := 39) rfl), lw_t4 (List.mem_of_getElem? (i := 165) rfl), lw_t4 (List.mem_of_getElem? (i := 166) rfl)⟩
theorem lw_p10 : lw_okq (⟨"PennyJudge", "swap", "(II)V"⟩, 25) := ⟨⟨by decide +kernel, by decide +kernel⟩, lw_t1 (List.mem_of_getElem? (i := 39) rfl), lw_t4 (List.mem_of_getElem? (i := 169) rfl), lw_t4 (List.mem_of_getElem? (i := 170) rfl)⟩
theorem lw_p11 : lw_okq (⟨"java/lang/NullPointerException", "getExtendedNPEMessage", "()Ljava/lang/String;"⟩, 8) := ⟨⟨by decide +kernel, by decide +kernel⟩, lw_t5 (List.mem_of_getElem? (i := 47) rfl), lw_t5 (List.mem_of_getElem? (i := 45) rfl), lw_t5 (List.mem_of_getElem? (i := 46) rfl)⟩
theorem lw_p12 : lw_okq (⟨"java/lang/Throwable", "fillInStackTrace", "(I)Ljava/lang/Throwable;"⟩, 6) := ⟨⟨by decide +kernel, by decide +kernel⟩, lw_t5 (List.mem_of_getElem? (i := 59) rfl), lw_t5 (List.mem_of_getElem? (i := 57) rfl), lw_t5 (List.mem_of_getElem? (i := 58) rfl)⟩
theorem lw_p13 : lw_okq (⟨"PennyJudge", "isTape", "(I)Z"⟩, 25) := ⟨⟨by decide +kernel, by decide +kernel⟩, lw_t1 (List.mem_of_getElem? (i := 39) rfl), lw_t5 (List.mem_of_getElem? (i := 103) rfl), lw_t5 (List.mem_of_getElem? (i := 104) rfl)⟩
theorem lw_p14 : lw_okq (⟨"PennyJudge", "snag", "(I)I"⟩, 25) := ⟨⟨by decide +kernel, by decide +kernel⟩, lw_t1 (List.mem_of_getElem? (i := 39) rfl), lw_t5 (List.mem_of_getElem? (i := 107) rfl), lw_t5 (List.mem_of_getElem? (i := 108) rfl)⟩
theorem lw_p15 : lw_okq (⟨"PennyJudge", "spread", "(IIIII)V"⟩, 25) := ⟨⟨by decide +kernel, by decide +kernel⟩, lw_t1 (List.mem_of_getElem? (i := 39) rfl), lw_t6 (List.mem_of_getElem? (i := 99) rfl), lw_t6 (List.mem_of_getElem? (i := 100) rfl)⟩
def lw_privs_1 : List (MethodName × Nat) := [(⟨"PennyJudge", "isProgram", "(I)Z"⟩, 25), (⟨"PennyJudge", "share", "(JII[J)V"⟩, 25), (⟨"PennyJudge", "wholeWeight", "(I)I"⟩, 25), (⟨"PennyJudge", "weightOf", "(III)I"⟩, 25), (⟨"PennyJudge", "firstBreak", "(LPennyJudge$Program;ILPennyJudge$Program;II)I"⟩, 25), (⟨"PennyJudge", "breaksLaw", "(LPennyJudge$Program;ILPennyJudge$Program;I)Z"⟩, 25), (⟨"PennyJudge", "runs", "(LPennyJudge$Program;LPennyJudge$Run;I)Z"⟩, 25), (⟨"PennyJudge", "alike", "(I)Z"⟩, 25), (⟨"PennyJudge", "farShare", "()Z"⟩, 25), (⟨"PennyJudge", "turn", "(I)Z"⟩, 25), (⟨"PennyJudge", "swap", "(II)V"⟩, 25), (⟨"java/lang/NullPointerException", "getExtendedNPEMessage", "()Ljava/lang/String;"⟩, 8), (⟨"java/lang/Throwable", "fillInStackTrace", "(I)Ljava/lang/Throwable;"⟩, 6), (⟨"PennyJudge", "isTape", "(I)Z"⟩, 25), (⟨"PennyJudge", "snag", "(I)I"⟩, 25), (⟨"PennyJudge", "spread", "(IIIII)V"⟩, 25)]
theorem lw_r1 : ∀ q ∈ lw_privs_1, lw_okq q := List.forall_mem_cons.mpr ⟨lw_p0, List.forall_mem_cons.mpr ⟨lw_p1, List.forall_mem_cons.mpr ⟨lw_p2, List.forall_mem_cons.mpr ⟨lw_p3, List.forall_mem_cons.mpr ⟨lw_p4, List.forall_mem_cons.mpr ⟨lw_p5, List.forall_mem_cons.mpr ⟨lw_p6, List.forall_mem_cons.mpr ⟨lw_p7, List.forall_mem_cons.mpr ⟨lw_p8, List.forall_mem_cons.mpr ⟨lw_p9, List.forall_mem_cons.mpr ⟨lw_p10, List.forall_mem_cons.mpr ⟨lw_p11, List.forall_mem_cons.mpr ⟨lw_p12, List.forall_mem_cons.mpr ⟨lw_p13, List.forall_mem_cons.mpr ⟨lw_p14, List.forall_mem_cons.mpr ⟨lw_p15, fun _ h => absurd h List.not_mem_nil⟩⟩⟩⟩⟩⟩⟩⟩⟩⟩⟩⟩⟩⟩⟩⟩
theorem lw_p16 : lw_okq (⟨"PennyJudgeModel", "resets", "()V"⟩, 52) := ⟨⟨by decide +kernel, by decide +kernel⟩, lw_t6 (List.mem_of_getElem? (i := 141) rfl), lw_t6 (List.mem_of_getElem? (i := 147) rfl), lw_t6 (List.mem_of_getElem? (i := 148) rfl)⟩
theorem lw_p17 : lw_okq (⟨"PennyJudgeModel", "clears", "()V"⟩, 52) := ⟨⟨by decide +kernel, by decide +kernel⟩, lw_t6 (List.mem_of_getElem? (i := 141) rfl), lw_t6 (List.mem_of_getElem? (i := 151) rfl), lw_t6 (List.mem_of_getElem? (i := 152) rfl)⟩
theorem lw_p18 : lw_okq (⟨"PennyJudgeModel", "isProgram", "(I)Z"⟩, 52) := ⟨⟨by decide +kernel, by decide +kernel⟩, lw_t6 (List.mem_of_getElem? (i := 141) rfl), lw_t7 (List.mem_of_getElem? (i := 112) rfl), lw_t7 (List.mem_of_getElem? (i := 113) rfl)⟩
theorem lw_p19 : lw_okq (⟨"PennyJudgeModel", "isAct", "(II)Z"⟩, 52) := ⟨⟨by decide +kernel, by decide +kernel⟩, lw_t6 (List.mem_of_getElem? (i := 141) rfl), lw_t7 (List.mem_of_getElem? (i := 124) rfl), lw_t7 (List.mem_of_getElem? (i := 125) rfl)⟩
theorem lw_p20 : lw_okq (⟨"PennyJudgeModel", "runsReal", "(I)I"⟩, 52) := ⟨⟨by decide +kernel, by decide +kernel⟩, lw_t6 (List.mem_of_getElem? (i := 141) rfl), lw_t7 (List.mem_of_getElem? (i := 136) rfl), lw_t7 (List.mem_of_getElem? (i := 137) rfl)⟩
theorem lw_p21 : lw_okq (⟨"PennyJudgeModel", "runs", "(I)I"⟩, 52) := ⟨⟨by decide +kernel, by decide +kernel⟩, lw_t6 (List.mem_of_getElem? (i := 141) rfl), lw_t7 (List.mem_of_getElem? (i := 140) rfl), lw_t7 (List.mem_of_getElem? (i := 141) rfl)⟩
theorem lw_p22 : lw_okq (⟨"PennyJudgeModel", "does", "(II)V"⟩, 52) := ⟨⟨by decide +kernel, by decide +kernel⟩, lw_t6 (List.mem_of_getElem? (i := 141) rfl), lw_t7 (List.mem_of_getElem? (i := 144) rfl), lw_t7 (List.mem_of_getElem? (i := 145) rfl)⟩
theorem lw_p23 : lw_okq (⟨"PennyJudgeModel", "plain", "(IJ)V"⟩, 52) := ⟨⟨by decide +kernel, by decide +kernel⟩, lw_t6 (List.mem_of_getElem? (i := 141) rfl), lw_t7 (List.mem_of_getElem? (i := 148) rfl), lw_t7 (List.mem_of_getElem? (i := 149) rfl)⟩
theorem lw_p24 : lw_okq (⟨"PennyJudgeModel", "becomesWhole", "(IJ)Z"⟩, 52) := ⟨⟨by decide +kernel, by decide +kernel⟩, lw_t6 (List.mem_of_getElem? (i := 141) rfl), lw_t7 (List.mem_of_getElem? (i := 152) rfl), lw_t7 (List.mem_of_getElem? (i := 153) rfl)⟩
theorem lw_p25 : lw_okq (⟨"PennyJudgeModel", "becomes", "(IJJ)Z"⟩, 52) := ⟨⟨by decide +kernel, by decide +kernel⟩, lw_t6 (List.mem_of_getElem? (i := 141) rfl), lw_t7 (List.mem_of_getElem? (i := 156) rfl), lw_t7 (List.mem_of_getElem? (i := 157) rfl)⟩
theorem lw_p26 : lw_okq (⟨"PennyJudgeModel", "taxes", "(IIIZ)V"⟩, 52) := ⟨⟨by decide +kernel, by decide +kernel⟩, lw_t6 (List.mem_of_getElem? (i := 141) rfl), lw_t7 (List.mem_of_getElem? (i := 166) rfl), lw_t7 (List.mem_of_getElem? (i := 167) rfl)⟩
theorem lw_p27 : lw_okq (⟨"PennyJudgeModel", "rates", "(III)V"⟩, 52) := ⟨⟨by decide +kernel, by decide +kernel⟩, lw_t6 (List.mem_of_getElem? (i := 141) rfl), lw_t7 (List.mem_of_getElem? (i := 177) rfl), lw_t7 (List.mem_of_getElem? (i := 178) rfl)⟩
theorem lw_p28 : lw_okq (⟨"PennyJudgeModel", "adds", "(III)V"⟩, 52) := ⟨⟨by decide +kernel, by decide +kernel⟩, lw_t6 (List.mem_of_getElem? (i := 141) rfl), lw_t7 (List.mem_of_getElem? (i := 181) rfl), lw_t7 (List.mem_of_getElem? (i := 182) rfl)⟩
theorem lw_p29 : lw_okq (⟨"PennyJudgeModel", "splits", "(JII)V"⟩, 52) := ⟨⟨by decide +kernel, by decide +kernel⟩, lw_t6 (List.mem_of_getElem? (i := 141) rfl), lw_t7 (List.mem_of_getElem? (i := 185) rfl), lw_t7 (List.mem_of_getElem? (i := 186) rfl)⟩
theorem lw_p30 : lw_okq (⟨"PennyJudgeModel", "partsOf", "(I)I"⟩, 52) := ⟨⟨by decide +kernel, by decide +kernel⟩, lw_t6 (List.mem_of_getElem? (i := 141) rfl), lw_t7 (List.mem_of_getElem? (i := 189) rfl), lw_t7 (List.mem_of_getElem? (i := 190) rfl)⟩
theorem lw_p31 : lw_okq (⟨"PennyJudgeModel", "isEven", "(I)Z"⟩, 52) := ⟨⟨by decide +kernel, by decide +kernel⟩, lw_t6 (List.mem_of_getElem? (i := 141) rfl), lw_t7 (List.mem_of_getElem? (i := 193) rfl), lw_t7 (List.mem_of_getElem? (i := 194) rfl)⟩
def lw_privs_2 : List (MethodName × Nat) := [(⟨"PennyJudgeModel", "resets", "()V"⟩, 52), (⟨"PennyJudgeModel", "clears", "()V"⟩, 52), (⟨"PennyJudgeModel", "isProgram", "(I)Z"⟩, 52), (⟨"PennyJudgeModel", "isAct", "(II)Z"⟩, 52), (⟨"PennyJudgeModel", "runsReal", "(I)I"⟩, 52), (⟨"PennyJudgeModel", "runs", "(I)I"⟩, 52), (⟨"PennyJudgeModel", "does", "(II)V"⟩, 52), (⟨"PennyJudgeModel", "plain", "(IJ)V"⟩, 52), (⟨"PennyJudgeModel", "becomesWhole", "(IJ)Z"⟩, 52), (⟨"PennyJudgeModel", "becomes", "(IJJ)Z"⟩, 52), (⟨"PennyJudgeModel", "taxes", "(IIIZ)V"⟩, 52), (⟨"PennyJudgeModel", "rates", "(III)V"⟩, 52), (⟨"PennyJudgeModel", "adds", "(III)V"⟩, 52), (⟨"PennyJudgeModel", "splits", "(JII)V"⟩, 52), (⟨"PennyJudgeModel", "partsOf", "(I)I"⟩, 52), (⟨"PennyJudgeModel", "isEven", "(I)Z"⟩, 52)]
theorem lw_r2 : ∀ q ∈ lw_privs_2, lw_okq q := List.forall_mem_cons.mpr ⟨lw_p16, List.forall_mem_cons.mpr ⟨lw_p17, List.forall_mem_cons.mpr ⟨lw_p18, List.forall_mem_cons.mpr ⟨lw_p19, List.forall_mem_cons.mpr ⟨lw_p20, List.forall_mem_cons.mpr ⟨lw_p21, List.forall_mem_cons.mpr ⟨lw_p22, List.forall_mem_cons.mpr ⟨lw_p23, List.forall_mem_cons.mpr ⟨lw_p24, List.forall_mem_cons.mpr ⟨lw_p25, List.forall_mem_cons.mpr ⟨lw_p26, List.forall_mem_cons.mpr ⟨lw_p27, List.forall_mem_cons.mpr ⟨lw_p28, List.forall_mem_cons.mpr ⟨lw_p29, List.forall_mem_cons.mpr ⟨lw_p30, List.forall_mem_cons.mpr ⟨lw_p31, fun _ h => absurd h List.not_mem_nil⟩⟩⟩⟩⟩⟩⟩⟩⟩⟩⟩⟩⟩⟩⟩⟩
theorem lw_p32 : lw_okq (⟨"PennyJudgeModel", "allWeights", "(I)J"⟩, 52) := ⟨⟨by decide +kernel, by decide +kernel⟩, lw_t6 (List.mem_of_getElem? (i := 141) rfl), lw_t7 (List.mem_of_getElem? (i := 197) rfl), lw_t7 (List.mem_of_getElem? (i := 198) rfl)⟩
theorem lw_p33 : lw_okq (⟨"PennyJudgeModel", "weighed", "(II)J"⟩, 52) := ⟨⟨by decide +kernel, by decide +kernel⟩, lw_t6 (List.mem_of_getElem? (i := 141) rfl), lw_t7 (List.mem_of_getElem? (i := 201) rfl), lw_t7 (List.mem_of_getElem? (i := 202) rfl)⟩
theorem lw_p34 : lw_okq (⟨"PennyJudgeModel", "carries", "(II)V"⟩, 52) := ⟨⟨by decide +kernel, by decide +kernel⟩, lw_t6 (List.mem_of_getElem? (i := 141) rfl), lw_t7 (List.mem_of_getElem? (i := 205) rfl), lw_t7 (List.mem_of_getElem? (i := 206) rfl)⟩
theorem lw_p35 : lw_okq (⟨"PennyJudgeModel", "caps", "(IIJ)V"⟩, 52) := ⟨⟨by decide +kernel, by decide +kernel⟩, lw_t6 (List.mem_of_getElem? (i := 141) rfl), lw_t7 (List.mem_of_getElem? (i := 209) rfl), lw_t7 (List.mem_of_getElem? (i := 210) rfl)⟩
theorem lw_p36 : lw_okq (⟨"PennyJudgeModel", "books", "(III)V"⟩, 52) := ⟨⟨by decide +kernel, by decide +kernel⟩, lw_t6 (List.mem_of_getElem? (i := 141) rfl), lw_t7 (List.mem_of_getElem? (i := 213) rfl), lw_t7 (List.mem_of_getElem? (i := 214) rfl)⟩
theorem lw_p37 : lw_okq (⟨"PennyJudgeModel", "days", "(III)V"⟩, 52) := ⟨⟨by decide +kernel, by decide +kernel⟩, lw_t6 (List.mem_of_getElem? (i := 141) rfl), lw_t7 (List.mem_of_getElem? (i := 217) rfl), lw_t7 (List.mem_of_getElem? (i := 218) rfl)⟩
theorem lw_p38 : lw_okq (⟨"PennyJudgeModel", "isRefused", "(Z)Z"⟩, 52) := ⟨⟨by decide +kernel, by decide +kernel⟩, lw_t6 (List.mem_of_getElem? (i := 141) rfl), lw_t7 (List.mem_of_getElem? (i := 233) rfl), lw_t7 (List.mem_of_getElem? (i := 234) rfl)⟩
theorem lw_p39 : lw_okq (⟨"PennyJudgeModel", "leastOf", "(IIIII)I"⟩, 52) := ⟨⟨by decide +kernel, by decide +kernel⟩, lw_t6 (List.mem_of_getElem? (i := 141) rfl), lw_t8 (List.mem_of_getElem? (i := 21) rfl), lw_t8 (List.mem_of_getElem? (i := 22) rfl)⟩
theorem lw_p40 : lw_okq (⟨"PennyJudgeModel", "breaks", "(IIII)Z"⟩, 52) := ⟨⟨by decide +kernel, by decide +kernel⟩, lw_t6 (List.mem_of_getElem? (i := 141) rfl), lw_t8 (List.mem_of_getElem? (i := 25) rfl), lw_t8 (List.mem_of_getElem? (i := 26) rfl)⟩
theorem lw_p41 : lw_okq (⟨"PennyJudgeModel", "triesAmount", "(II)Z"⟩, 52) := ⟨⟨by decide +kernel, by decide +kernel⟩, lw_t6 (List.mem_of_getElem? (i := 141) rfl), lw_t8 (List.mem_of_getElem? (i := 29) rfl), lw_t8 (List.mem_of_getElem? (i := 30) rfl)⟩
theorem lw_p42 : lw_okq (⟨"PennyJudgeModel", "tries", "(I)Z"⟩, 52) := ⟨⟨by decide +kernel, by decide +kernel⟩, lw_t6 (List.mem_of_getElem? (i := 141) rfl), lw_t8 (List.mem_of_getElem? (i := 33) rfl), lw_t8 (List.mem_of_getElem? (i := 34) rfl)⟩
theorem lw_p43 : lw_okq (⟨"PennyJudgeModel", "notes", "()V"⟩, 52) := ⟨⟨by decide +kernel, by decide +kernel⟩, lw_t6 (List.mem_of_getElem? (i := 141) rfl), lw_t8 (List.mem_of_getElem? (i := 37) rfl), lw_t8 (List.mem_of_getElem? (i := 38) rfl)⟩
theorem lw_p44 : lw_okq (⟨"PennyJudgeModel", "differs", "(J)Z"⟩, 52) := ⟨⟨by decide +kernel, by decide +kernel⟩, lw_t6 (List.mem_of_getElem? (i := 141) rfl), lw_t8 (List.mem_of_getElem? (i := 42) rfl), lw_t8 (List.mem_of_getElem? (i := 43) rfl)⟩
theorem lw_p45 : lw_okq (⟨"PennyJudgeModel", "isUnfair", "()Z"⟩, 52) := ⟨⟨by decide +kernel, by decide +kernel⟩, lw_t6 (List.mem_of_getElem? (i := 141) rfl), lw_t8 (List.mem_of_getElem? (i := 46) rfl), lw_t8 (List.mem_of_getElem? (i := 47) rfl)⟩
theorem lw_p46 : lw_okq (⟨"PennyJudgeModel", "floats", "(II)V"⟩, 52) := ⟨⟨by decide +kernel, by decide +kernel⟩, lw_t6 (List.mem_of_getElem? (i := 141) rfl), lw_t8 (List.mem_of_getElem? (i := 50) rfl), lw_t8 (List.mem_of_getElem? (i := 51) rfl)⟩
theorem lw_p47 : lw_okq (⟨"PennyJudgeModel", "doesF", "(ID)V"⟩, 52) := ⟨⟨by decide +kernel, by decide +kernel⟩, lw_t6 (List.mem_of_getElem? (i := 141) rfl), lw_t8 (List.mem_of_getElem? (i := 54) rfl), lw_t8 (List.mem_of_getElem? (i := 55) rfl)⟩
def lw_privs_3 : List (MethodName × Nat) := [(⟨"PennyJudgeModel", "allWeights", "(I)J"⟩, 52), (⟨"PennyJudgeModel", "weighed", "(II)J"⟩, 52), (⟨"PennyJudgeModel", "carries", "(II)V"⟩, 52), (⟨"PennyJudgeModel", "caps", "(IIJ)V"⟩, 52), (⟨"PennyJudgeModel", "books", "(III)V"⟩, 52), (⟨"PennyJudgeModel", "days", "(III)V"⟩, 52), (⟨"PennyJudgeModel", "isRefused", "(Z)Z"⟩, 52), (⟨"PennyJudgeModel", "leastOf", "(IIIII)I"⟩, 52), (⟨"PennyJudgeModel", "breaks", "(IIII)Z"⟩, 52), (⟨"PennyJudgeModel", "triesAmount", "(II)Z"⟩, 52), (⟨"PennyJudgeModel", "tries", "(I)Z"⟩, 52), (⟨"PennyJudgeModel", "notes", "()V"⟩, 52), (⟨"PennyJudgeModel", "differs", "(J)Z"⟩, 52), (⟨"PennyJudgeModel", "isUnfair", "()Z"⟩, 52), (⟨"PennyJudgeModel", "floats", "(II)V"⟩, 52), (⟨"PennyJudgeModel", "doesF", "(ID)V"⟩, 52)]
theorem lw_r3 : ∀ q ∈ lw_privs_3, lw_okq q := List.forall_mem_cons.mpr ⟨lw_p32, List.forall_mem_cons.mpr ⟨lw_p33, List.forall_mem_cons.mpr ⟨lw_p34, List.forall_mem_cons.mpr ⟨lw_p35, List.forall_mem_cons.mpr ⟨lw_p36, List.forall_mem_cons.mpr ⟨lw_p37, List.forall_mem_cons.mpr ⟨lw_p38, List.forall_mem_cons.mpr ⟨lw_p39, List.forall_mem_cons.mpr ⟨lw_p40, List.forall_mem_cons.mpr ⟨lw_p41, List.forall_mem_cons.mpr ⟨lw_p42, List.forall_mem_cons.mpr ⟨lw_p43, List.forall_mem_cons.mpr ⟨lw_p44, List.forall_mem_cons.mpr ⟨lw_p45, List.forall_mem_cons.mpr ⟨lw_p46, List.forall_mem_cons.mpr ⟨lw_p47, fun _ h => absurd h List.not_mem_nil⟩⟩⟩⟩⟩⟩⟩⟩⟩⟩⟩⟩⟩⟩⟩⟩
theorem lw_p48 : lw_okq (⟨"PennyJudgeModel", "rateF", "(I)D"⟩, 52) := ⟨⟨by decide +kernel, by decide +kernel⟩, lw_t6 (List.mem_of_getElem? (i := 141) rfl), lw_t8 (List.mem_of_getElem? (i := 58) rfl), lw_t8 (List.mem_of_getElem? (i := 59) rfl)⟩
theorem lw_p49 : lw_okq (⟨"PennyJudgeModel", "splitsF", "(III)V"⟩, 52) := ⟨⟨by decide +kernel, by decide +kernel⟩, lw_t6 (List.mem_of_getElem? (i := 141) rfl), lw_t8 (List.mem_of_getElem? (i := 69) rfl), lw_t8 (List.mem_of_getElem? (i := 70) rfl)⟩
theorem lw_p50 : lw_okq (⟨"PennyJudgeModel", "keepsF", "(I)V"⟩, 52) := ⟨⟨by decide +kernel, by decide +kernel⟩, lw_t6 (List.mem_of_getElem? (i := 141) rfl), lw_t8 (List.mem_of_getElem? (i := 73) rfl), lw_t8 (List.mem_of_getElem? (i := 74) rfl)⟩
theorem lw_p51 : lw_okq (⟨"PennyJudgeModel", "triesOrder", "(I)Z"⟩, 52) := ⟨⟨by decide +kernel, by decide +kernel⟩, lw_t6 (List.mem_of_getElem? (i := 141) rfl), lw_t8 (List.mem_of_getElem? (i := 84) rfl), lw_t8 (List.mem_of_getElem? (i := 85) rfl)⟩
theorem lw_p52 : lw_okq (⟨"PennyJudgeModel", "steps", "()Z"⟩, 52) := ⟨⟨by decide +kernel, by decide +kernel⟩, lw_t6 (List.mem_of_getElem? (i := 141) rfl), lw_t8 (List.mem_of_getElem? (i := 88) rfl), lw_t8 (List.mem_of_getElem? (i := 89) rfl)⟩
theorem lw_p53 : lw_okq (⟨"PennyJudgeModel", "hasChoice", "(I)Z"⟩, 52) := ⟨⟨by decide +kernel, by decide +kernel⟩, lw_t6 (List.mem_of_getElem? (i := 141) rfl), lw_t8 (List.mem_of_getElem? (i := 100) rfl), lw_t8 (List.mem_of_getElem? (i := 101) rfl)⟩
theorem lw_p54 : lw_okq (⟨"PennyJudgeModel", "chooses", "(II)V"⟩, 52) := ⟨⟨by decide +kernel, by decide +kernel⟩, lw_t6 (List.mem_of_getElem? (i := 141) rfl), lw_t8 (List.mem_of_getElem? (i := 104) rfl), lw_t8 (List.mem_of_getElem? (i := 105) rfl)⟩
theorem lw_p55 : lw_okq (⟨"PennyJudgeModel", "refuse", "(I)I"⟩, 52) := ⟨⟨by decide +kernel, by decide +kernel⟩, lw_t6 (List.mem_of_getElem? (i := 141) rfl), lw_t8 (List.mem_of_getElem? (i := 125) rfl), lw_t8 (List.mem_of_getElem? (i := 126) rfl)⟩
theorem lw_p56 : lw_okq (⟨"PennyJudgeModel", "lacks", "(I)I"⟩, 52) := ⟨⟨by decide +kernel, by decide +kernel⟩, lw_t6 (List.mem_of_getElem? (i := 141) rfl), lw_t8 (List.mem_of_getElem? (i := 137) rfl), lw_t8 (List.mem_of_getElem? (i := 138) rfl)⟩
def lw_privs_4 : List (MethodName × Nat) := [(⟨"PennyJudgeModel", "rateF", "(I)D"⟩, 52), (⟨"PennyJudgeModel", "splitsF", "(III)V"⟩, 52), (⟨"PennyJudgeModel", "keepsF", "(I)V"⟩, 52), (⟨"PennyJudgeModel", "triesOrder", "(I)Z"⟩, 52), (⟨"PennyJudgeModel", "steps", "()Z"⟩, 52), (⟨"PennyJudgeModel", "hasChoice", "(I)Z"⟩, 52), (⟨"PennyJudgeModel", "chooses", "(II)V"⟩, 52), (⟨"PennyJudgeModel", "refuse", "(I)I"⟩, 52), (⟨"PennyJudgeModel", "lacks", "(I)I"⟩, 52)]
theorem lw_r4 : ∀ q ∈ lw_privs_4, lw_okq q := List.forall_mem_cons.mpr ⟨lw_p48, List.forall_mem_cons.mpr ⟨lw_p49, List.forall_mem_cons.mpr ⟨lw_p50, List.forall_mem_cons.mpr ⟨lw_p51, List.forall_mem_cons.mpr ⟨lw_p52, List.forall_mem_cons.mpr ⟨lw_p53, List.forall_mem_cons.mpr ⟨lw_p54, List.forall_mem_cons.mpr ⟨lw_p55, List.forall_mem_cons.mpr ⟨lw_p56, fun _ h => absurd h List.not_mem_nil⟩⟩⟩⟩⟩⟩⟩⟩⟩
def lw_privs : List (MethodName × Nat) := lw_privs_1 ++ (lw_privs_2 ++ (lw_privs_3 ++ (lw_privs_4)))
def lw_tbl : List Cond := k2_sels lw_privs ++ tables_1
theorem lw_privs_ok : ∀ q ∈ lw_privs, lw_okq q := by
  show ∀ q ∈ lw_privs_1 ++ (lw_privs_2 ++ (lw_privs_3 ++ (lw_privs_4))), lw_okq q
  exact List.forall_mem_append.mpr ⟨lw_r1, List.forall_mem_append.mpr ⟨lw_r2, List.forall_mem_append.mpr ⟨lw_r3, lw_r4⟩⟩⟩
-- ===== ONE list of words for every method: the tables' words that hold all through a run =====
def lw_all : List Cond := lw_tbl.filter goodWord
/-- a word of the tables by its place: claim/WORDS.tsv -/
theorem lw_w {w : Cond} (i : Nat) (h : lw_tbl[i]? = some w) (g : goodWord w = true) : w ∈ lw_all := List.mem_filter.mpr ⟨List.mem_of_getElem? h, g⟩
theorem lw_all_tbl {w : Cond} (h : w ∈ lw_all) : w ∈ lw_tbl := (List.mem_filter.mp h).1
theorem lw_self : GoodIn lw_all lw_all := fun w h => ⟨h, good_of_word (List.mem_filter.mp h).2⟩
/-- a class's field words, by their places -/
theorem lw_in (ws : List Cond) (ps : List Nat) (hp : ws = ps.filterMap (fun i => lw_tbl[i]?)) (hg : ws.all goodWord = true) : ∀ w ∈ ws, w ∈ lw_all := by
  intro w h
  have h1 := List.all_eq_true.mp hg w h
  rw [hp] at h
  obtain ⟨i, -, hi⟩ := List.mem_filterMap.mp h
  exact lw_w i hi h1
/-- the words of a contract for the method y with code b, L locals, answer r -/
abbrev ws_ (y : MethodName) (b : ByteArray) (L : Nat) (r : Option FieldType) : List Cond := Cond.code y b L r :: lw_all
theorem lw_meth {y : MethodName} {b : ByteArray} {L : Nat} {r : Option FieldType} (h : Cond.code y b L r ∈ lw_all) : GoodIn lw_all (ws_ y b L r) := by
  intro w hw
  rcases List.mem_cons.mp hw with e | e
  · rw [e]
    exact lw_self _ h
  · exact lw_self _ e
theorem lw_app {a c : List Cond} (ha : ∀ w ∈ a, w ∈ lw_all) (hc : GoodIn lw_all c) : GoodIn lw_all (a ++ c) := by
  intro w hw
  rcases List.mem_append.mp hw with e | e
  · exact lw_self w (ha w e)
  · exact hc w e
/-- what a call through an object asks: cwV n hts (lw_V ..) -/
theorem lw_V {own : String} {idx : Nat} {C : String} {y : MethodName} {b : ByteArray} {L : Nat} {r : Option FieldType} (h1 : Cond.methodLink own idx y ∈ lw_all) (h2 : Cond.instanceMethod y ∈ lw_all) (h3 : Cond.selects C y y ∈ lw_all) (h4 : Cond.initialized C ∈ lw_all) (h5 : Cond.code y b L r ∈ lw_all) : GoodIn lw_all (wsV own idx C y (ws_ y b L r)) := by
  refine lw_app ?_ (lw_meth h5)
  intro w hw
  simp only [List.mem_cons, List.not_mem_nil, or_false] at hw
  rcases hw with e | e | e | e
  · rw [e]; exact h1
  · rw [e]; exact h2
  · rw [e]; exact h3
  · rw [e]; exact h4
/-- what a static call asks: va_cwS n hts (lw_S ..) -/
theorem lw_S {own : String} {idx : Nat} {y : MethodName} {b : ByteArray} {L : Nat} {r : Option FieldType} (h1 : Cond.methodLink own idx y ∈ lw_all) (h2 : Cond.static y ∈ lw_all) (h3 : Cond.initialized y.cls ∈ lw_all) (h4 : Cond.code y b L r ∈ lw_all) : GoodIn lw_all (va_wsS own idx y (ws_ y b L r)) := by
  refine lw_app ?_ (lw_meth h4)
  intro w hw
  simp only [List.mem_cons, List.not_mem_nil, or_false] at hw
  rcases hw with e | e | e
  · rw [e]; exact h1
  · rw [e]; exact h2
  · rw [e]; exact h3
/-- the words of a contract for a method WITH HANDLERS (hh: its table) -/
abbrev wsW_ (y : MethodName) (b : ByteArray) (L : Nat) (r : Option FieldType) (hh : List (Nat × Nat × Nat × Nat)) : List Cond := Cond.codeWith y b L r hh :: lw_all
theorem lw_methW {y : MethodName} {b : ByteArray} {L : Nat} {r : Option FieldType} {hh : List (Nat × Nat × Nat × Nat)} (h : Cond.codeWith y b L r hh ∈ lw_all) : GoodIn lw_all (wsW_ y b L r hh) := by
  intro w hw
  rcases List.mem_cons.mp hw with e | e
  · rw [e]
    exact lw_self _ h
  · exact lw_self _ e
/-- any list of words by their places (lw_in), good -/
theorem lw_good {ws : List Cond} (h : ∀ w ∈ ws, w ∈ lw_all) : GoodIn lw_all ws := fun w hw => lw_self w (h w hw)
/-- what a call of a method with handlers asks: vx_cwVW n hts (lw_VW ..), vx_cwSW n hts (lw_SW ..) -/
theorem lw_VW {own : String} {idx : Nat} {C : String} {y : MethodName} {b : ByteArray} {L : Nat} {r : Option FieldType} {hh : List (Nat × Nat × Nat × Nat)} (h1 : Cond.methodLink own idx y ∈ lw_all) (h2 : Cond.instanceMethod y ∈ lw_all) (h3 : Cond.selects C y y ∈ lw_all) (h4 : Cond.initialized C ∈ lw_all) (h5 : Cond.codeWith y b L r hh ∈ lw_all) : GoodIn lw_all (wsV own idx C y (wsW_ y b L r hh)) := by
  refine lw_app ?_ (lw_methW h5)
  intro w hw
  simp only [List.mem_cons, List.not_mem_nil, or_false] at hw
  rcases hw with e | e | e | e
  · rw [e]; exact h1
  · rw [e]; exact h2
  · rw [e]; exact h3
  · rw [e]; exact h4
theorem lw_SW {own : String} {idx : Nat} {y : MethodName} {b : ByteArray} {L : Nat} {r : Option FieldType} {hh : List (Nat × Nat × Nat × Nat)} (h1 : Cond.methodLink own idx y ∈ lw_all) (h2 : Cond.static y ∈ lw_all) (h3 : Cond.initialized y.cls ∈ lw_all) (h4 : Cond.codeWith y b L r hh ∈ lw_all) : GoodIn lw_all (va_wsS own idx y (wsW_ y b L r hh)) := by
  refine lw_app ?_ (lw_methW h4)
  intro w hw
  simp only [List.mem_cons, List.not_mem_nil, or_false] at hw
  rcases hw with e | e | e
  · rw [e]; exact h1
  · rw [e]; exact h2
  · rw [e]; exact h3
/-- a word by its place in its run of the tables -/
theorem lw_at {r : List Cond} (hr : ∀ w ∈ r, w ∈ lw_tbl) {w : Cond} (i : Nat) (h : r[i]? = some w) : w ∈ lw_tbl := hr w (List.mem_of_getElem? h)
theorem lw_g {w : Cond} (h : w ∈ lw_tbl) (g : goodWord w = true) : w ∈ lw_all := List.mem_filter.mpr ⟨h, g⟩
theorem lw_ms : ∀ w ∈ k2_sels lw_privs, w ∈ lw_tbl := fun w h => show w ∈ k2_sels lw_privs ++ tables_1 from List.mem_append_left _ h
theorem lw_m1 : ∀ w ∈ tables_1_1, w ∈ lw_tbl := fun w h => show w ∈ k2_sels lw_privs ++ tables_1 from List.mem_append_right (k2_sels lw_privs) (show w ∈ tables_1 from List.mem_append_left _ h)
theorem lw_m2 : ∀ w ∈ tables_1_2, w ∈ lw_tbl := fun w h => show w ∈ k2_sels lw_privs ++ tables_1 from List.mem_append_right (k2_sels lw_privs) (show w ∈ tables_1 from List.mem_append_right _ (List.mem_append_left _ h))
theorem lw_m3 : ∀ w ∈ tables_1_3, w ∈ lw_tbl := fun w h => show w ∈ k2_sels lw_privs ++ tables_1 from List.mem_append_right (k2_sels lw_privs) (show w ∈ tables_1 from List.mem_append_right _ (List.mem_append_right _ (List.mem_append_left _ h)))
theorem lw_m4 : ∀ w ∈ tables_1_4, w ∈ lw_tbl := fun w h => show w ∈ k2_sels lw_privs ++ tables_1 from List.mem_append_right (k2_sels lw_privs) (show w ∈ tables_1 from List.mem_append_right _ (List.mem_append_right _ (List.mem_append_right _ (List.mem_append_left _ h))))
theorem lw_m5 : ∀ w ∈ tables_1_5, w ∈ lw_tbl := fun w h => show w ∈ k2_sels lw_privs ++ tables_1 from List.mem_append_right (k2_sels lw_privs) (show w ∈ tables_1 from List.mem_append_right _ (List.mem_append_right _ (List.mem_append_right _ (List.mem_append_right _ (List.mem_append_left _ h)))))
theorem lw_m6 : ∀ w ∈ tables_1_6, w ∈ lw_tbl := fun w h => show w ∈ k2_sels lw_privs ++ tables_1 from List.mem_append_right (k2_sels lw_privs) (show w ∈ tables_1 from List.mem_append_right _ (List.mem_append_right _ (List.mem_append_right _ (List.mem_append_right _ (List.mem_append_right _ (List.mem_append_left _ h))))))
theorem lw_m7 : ∀ w ∈ tables_1_7, w ∈ lw_tbl := fun w h => show w ∈ k2_sels lw_privs ++ tables_1 from List.mem_append_right (k2_sels lw_privs) (show w ∈ tables_1 from List.mem_append_right _ (List.mem_append_right _ (List.mem_append_right _ (List.mem_append_right _ (List.mem_append_right _ (List.mem_append_right _ (List.mem_append_left _ h)))))))
theorem lw_m8 : ∀ w ∈ tables_1_8, w ∈ lw_tbl := fun w h => show w ∈ k2_sels lw_privs ++ tables_1 from List.mem_append_right (k2_sels lw_privs) (show w ∈ tables_1 from List.mem_append_right _ (List.mem_append_right _ (List.mem_append_right _ (List.mem_append_right _ (List.mem_append_right _ (List.mem_append_right _ (List.mem_append_right _ h)))))))
theorem qs0 : (Cond.selects "PennyJudge" ⟨"PennyJudge", "isProgram", "(I)Z"⟩ ⟨"PennyJudge", "isProgram", "(I)Z"⟩) ∈ lw_all := lw_g (lw_at lw_ms 0 rfl) rfl
theorem qs1 : (Cond.selects "PennyJudge" ⟨"PennyJudge", "share", "(JII[J)V"⟩ ⟨"PennyJudge", "share", "(JII[J)V"⟩) ∈ lw_all := lw_g (lw_at lw_ms 1 rfl) rfl
theorem qs2 : (Cond.selects "PennyJudge" ⟨"PennyJudge", "wholeWeight", "(I)I"⟩ ⟨"PennyJudge", "wholeWeight", "(I)I"⟩) ∈ lw_all := lw_g (lw_at lw_ms 2 rfl) rfl
theorem qs3 : (Cond.selects "PennyJudge" ⟨"PennyJudge", "weightOf", "(III)I"⟩ ⟨"PennyJudge", "weightOf", "(III)I"⟩) ∈ lw_all := lw_g (lw_at lw_ms 3 rfl) rfl
theorem qs4 : (Cond.selects "PennyJudge" ⟨"PennyJudge", "firstBreak", "(LPennyJudge$Program;ILPennyJudge$Program;II)I"⟩ ⟨"PennyJudge", "firstBreak", "(LPennyJudge$Program;ILPennyJudge$Program;II)I"⟩) ∈ lw_all := lw_g (lw_at lw_ms 4 rfl) rfl
theorem qs5 : (Cond.selects "PennyJudge" ⟨"PennyJudge", "breaksLaw", "(LPennyJudge$Program;ILPennyJudge$Program;I)Z"⟩ ⟨"PennyJudge", "breaksLaw", "(LPennyJudge$Program;ILPennyJudge$Program;I)Z"⟩) ∈ lw_all := lw_g (lw_at lw_ms 5 rfl) rfl
theorem qs6 : (Cond.selects "PennyJudge" ⟨"PennyJudge", "runs", "(LPennyJudge$Program;LPennyJudge$Run;I)Z"⟩ ⟨"PennyJudge", "runs", "(LPennyJudge$Program;LPennyJudge$Run;I)Z"⟩) ∈ lw_all := lw_g (lw_at lw_ms 6 rfl) rfl
theorem qs7 : (Cond.selects "PennyJudge" ⟨"PennyJudge", "alike", "(I)Z"⟩ ⟨"PennyJudge", "alike", "(I)Z"⟩) ∈ lw_all := lw_g (lw_at lw_ms 7 rfl) rfl
theorem qs8 : (Cond.selects "PennyJudge" ⟨"PennyJudge", "farShare", "()Z"⟩ ⟨"PennyJudge", "farShare", "()Z"⟩) ∈ lw_all := lw_g (lw_at lw_ms 8 rfl) rfl
theorem qs9 : (Cond.selects "PennyJudge" ⟨"PennyJudge", "turn", "(I)Z"⟩ ⟨"PennyJudge", "turn", "(I)Z"⟩) ∈ lw_all := lw_g (lw_at lw_ms 9 rfl) rfl
theorem qs10 : (Cond.selects "PennyJudge" ⟨"PennyJudge", "swap", "(II)V"⟩ ⟨"PennyJudge", "swap", "(II)V"⟩) ∈ lw_all := lw_g (lw_at lw_ms 10 rfl) rfl
theorem qs11 : (Cond.selects "java/lang/NullPointerException" ⟨"java/lang/NullPointerException", "getExtendedNPEMessage", "()Ljava/lang/String;"⟩ ⟨"java/lang/NullPointerException", "getExtendedNPEMessage", "()Ljava/lang/String;"⟩) ∈ lw_all := lw_g (lw_at lw_ms 11 rfl) rfl
theorem qs12 : (Cond.selects "java/lang/Throwable" ⟨"java/lang/Throwable", "fillInStackTrace", "(I)Ljava/lang/Throwable;"⟩ ⟨"java/lang/Throwable", "fillInStackTrace", "(I)Ljava/lang/Throwable;"⟩) ∈ lw_all := lw_g (lw_at lw_ms 12 rfl) rfl
theorem qs13 : (Cond.selects "PennyJudge" ⟨"PennyJudge", "isTape", "(I)Z"⟩ ⟨"PennyJudge", "isTape", "(I)Z"⟩) ∈ lw_all := lw_g (lw_at lw_ms 13 rfl) rfl
theorem qs14 : (Cond.selects "PennyJudge" ⟨"PennyJudge", "snag", "(I)I"⟩ ⟨"PennyJudge", "snag", "(I)I"⟩) ∈ lw_all := lw_g (lw_at lw_ms 14 rfl) rfl
theorem qs15 : (Cond.selects "PennyJudge" ⟨"PennyJudge", "spread", "(IIIII)V"⟩ ⟨"PennyJudge", "spread", "(IIIII)V"⟩) ∈ lw_all := lw_g (lw_at lw_ms 15 rfl) rfl
theorem qs16 : (Cond.selects "PennyJudgeModel" ⟨"PennyJudgeModel", "resets", "()V"⟩ ⟨"PennyJudgeModel", "resets", "()V"⟩) ∈ lw_all := lw_g (lw_at lw_ms 16 rfl) rfl
theorem qs17 : (Cond.selects "PennyJudgeModel" ⟨"PennyJudgeModel", "clears", "()V"⟩ ⟨"PennyJudgeModel", "clears", "()V"⟩) ∈ lw_all := lw_g (lw_at lw_ms 17 rfl) rfl
theorem qs18 : (Cond.selects "PennyJudgeModel" ⟨"PennyJudgeModel", "isProgram", "(I)Z"⟩ ⟨"PennyJudgeModel", "isProgram", "(I)Z"⟩) ∈ lw_all := lw_g (lw_at lw_ms 18 rfl) rfl
theorem qs19 : (Cond.selects "PennyJudgeModel" ⟨"PennyJudgeModel", "isAct", "(II)Z"⟩ ⟨"PennyJudgeModel", "isAct", "(II)Z"⟩) ∈ lw_all := lw_g (lw_at lw_ms 19 rfl) rfl
theorem qs20 : (Cond.selects "PennyJudgeModel" ⟨"PennyJudgeModel", "runsReal", "(I)I"⟩ ⟨"PennyJudgeModel", "runsReal", "(I)I"⟩) ∈ lw_all := lw_g (lw_at lw_ms 20 rfl) rfl
theorem qs21 : (Cond.selects "PennyJudgeModel" ⟨"PennyJudgeModel", "runs", "(I)I"⟩ ⟨"PennyJudgeModel", "runs", "(I)I"⟩) ∈ lw_all := lw_g (lw_at lw_ms 21 rfl) rfl
theorem qs22 : (Cond.selects "PennyJudgeModel" ⟨"PennyJudgeModel", "does", "(II)V"⟩ ⟨"PennyJudgeModel", "does", "(II)V"⟩) ∈ lw_all := lw_g (lw_at lw_ms 22 rfl) rfl
theorem qs23 : (Cond.selects "PennyJudgeModel" ⟨"PennyJudgeModel", "plain", "(IJ)V"⟩ ⟨"PennyJudgeModel", "plain", "(IJ)V"⟩) ∈ lw_all := lw_g (lw_at lw_ms 23 rfl) rfl
theorem qs24 : (Cond.selects "PennyJudgeModel" ⟨"PennyJudgeModel", "becomesWhole", "(IJ)Z"⟩ ⟨"PennyJudgeModel", "becomesWhole", "(IJ)Z"⟩) ∈ lw_all := lw_g (lw_at lw_ms 24 rfl) rfl
theorem qs25 : (Cond.selects "PennyJudgeModel" ⟨"PennyJudgeModel", "becomes", "(IJJ)Z"⟩ ⟨"PennyJudgeModel", "becomes", "(IJJ)Z"⟩) ∈ lw_all := lw_g (lw_at lw_ms 25 rfl) rfl
theorem qs26 : (Cond.selects "PennyJudgeModel" ⟨"PennyJudgeModel", "taxes", "(IIIZ)V"⟩ ⟨"PennyJudgeModel", "taxes", "(IIIZ)V"⟩) ∈ lw_all := lw_g (lw_at lw_ms 26 rfl) rfl
theorem qs27 : (Cond.selects "PennyJudgeModel" ⟨"PennyJudgeModel", "rates", "(III)V"⟩ ⟨"PennyJudgeModel", "rates", "(III)V"⟩) ∈ lw_all := lw_g (lw_at lw_ms 27 rfl) rfl
theorem qs28 : (Cond.selects "PennyJudgeModel" ⟨"PennyJudgeModel", "adds", "(III)V"⟩ ⟨"PennyJudgeModel", "adds", "(III)V"⟩) ∈ lw_all := lw_g (lw_at lw_ms 28 rfl) rfl
theorem qs29 : (Cond.selects "PennyJudgeModel" ⟨"PennyJudgeModel", "splits", "(JII)V"⟩ ⟨"PennyJudgeModel", "splits", "(JII)V"⟩) ∈ lw_all := lw_g (lw_at lw_ms 29 rfl) rfl
theorem qs30 : (Cond.selects "PennyJudgeModel" ⟨"PennyJudgeModel", "partsOf", "(I)I"⟩ ⟨"PennyJudgeModel", "partsOf", "(I)I"⟩) ∈ lw_all := lw_g (lw_at lw_ms 30 rfl) rfl
theorem qs31 : (Cond.selects "PennyJudgeModel" ⟨"PennyJudgeModel", "isEven", "(I)Z"⟩ ⟨"PennyJudgeModel", "isEven", "(I)Z"⟩) ∈ lw_all := lw_g (lw_at lw_ms 31 rfl) rfl
theorem qs32 : (Cond.selects "PennyJudgeModel" ⟨"PennyJudgeModel", "allWeights", "(I)J"⟩ ⟨"PennyJudgeModel", "allWeights", "(I)J"⟩) ∈ lw_all := lw_g (lw_at lw_ms 32 rfl) rfl
theorem qs33 : (Cond.selects "PennyJudgeModel" ⟨"PennyJudgeModel", "weighed", "(II)J"⟩ ⟨"PennyJudgeModel", "weighed", "(II)J"⟩) ∈ lw_all := lw_g (lw_at lw_ms 33 rfl) rfl
theorem qs34 : (Cond.selects "PennyJudgeModel" ⟨"PennyJudgeModel", "carries", "(II)V"⟩ ⟨"PennyJudgeModel", "carries", "(II)V"⟩) ∈ lw_all := lw_g (lw_at lw_ms 34 rfl) rfl
theorem qs35 : (Cond.selects "PennyJudgeModel" ⟨"PennyJudgeModel", "caps", "(IIJ)V"⟩ ⟨"PennyJudgeModel", "caps", "(IIJ)V"⟩) ∈ lw_all := lw_g (lw_at lw_ms 35 rfl) rfl
theorem qs36 : (Cond.selects "PennyJudgeModel" ⟨"PennyJudgeModel", "books", "(III)V"⟩ ⟨"PennyJudgeModel", "books", "(III)V"⟩) ∈ lw_all := lw_g (lw_at lw_ms 36 rfl) rfl
theorem qs37 : (Cond.selects "PennyJudgeModel" ⟨"PennyJudgeModel", "days", "(III)V"⟩ ⟨"PennyJudgeModel", "days", "(III)V"⟩) ∈ lw_all := lw_g (lw_at lw_ms 37 rfl) rfl
theorem qs38 : (Cond.selects "PennyJudgeModel" ⟨"PennyJudgeModel", "isRefused", "(Z)Z"⟩ ⟨"PennyJudgeModel", "isRefused", "(Z)Z"⟩) ∈ lw_all := lw_g (lw_at lw_ms 38 rfl) rfl
theorem qs39 : (Cond.selects "PennyJudgeModel" ⟨"PennyJudgeModel", "leastOf", "(IIIII)I"⟩ ⟨"PennyJudgeModel", "leastOf", "(IIIII)I"⟩) ∈ lw_all := lw_g (lw_at lw_ms 39 rfl) rfl
theorem qs40 : (Cond.selects "PennyJudgeModel" ⟨"PennyJudgeModel", "breaks", "(IIII)Z"⟩ ⟨"PennyJudgeModel", "breaks", "(IIII)Z"⟩) ∈ lw_all := lw_g (lw_at lw_ms 40 rfl) rfl
theorem qs41 : (Cond.selects "PennyJudgeModel" ⟨"PennyJudgeModel", "triesAmount", "(II)Z"⟩ ⟨"PennyJudgeModel", "triesAmount", "(II)Z"⟩) ∈ lw_all := lw_g (lw_at lw_ms 41 rfl) rfl
theorem qs42 : (Cond.selects "PennyJudgeModel" ⟨"PennyJudgeModel", "tries", "(I)Z"⟩ ⟨"PennyJudgeModel", "tries", "(I)Z"⟩) ∈ lw_all := lw_g (lw_at lw_ms 42 rfl) rfl
theorem qs43 : (Cond.selects "PennyJudgeModel" ⟨"PennyJudgeModel", "notes", "()V"⟩ ⟨"PennyJudgeModel", "notes", "()V"⟩) ∈ lw_all := lw_g (lw_at lw_ms 43 rfl) rfl
theorem qs44 : (Cond.selects "PennyJudgeModel" ⟨"PennyJudgeModel", "differs", "(J)Z"⟩ ⟨"PennyJudgeModel", "differs", "(J)Z"⟩) ∈ lw_all := lw_g (lw_at lw_ms 44 rfl) rfl
theorem qs45 : (Cond.selects "PennyJudgeModel" ⟨"PennyJudgeModel", "isUnfair", "()Z"⟩ ⟨"PennyJudgeModel", "isUnfair", "()Z"⟩) ∈ lw_all := lw_g (lw_at lw_ms 45 rfl) rfl
theorem qs46 : (Cond.selects "PennyJudgeModel" ⟨"PennyJudgeModel", "floats", "(II)V"⟩ ⟨"PennyJudgeModel", "floats", "(II)V"⟩) ∈ lw_all := lw_g (lw_at lw_ms 46 rfl) rfl
theorem qs47 : (Cond.selects "PennyJudgeModel" ⟨"PennyJudgeModel", "doesF", "(ID)V"⟩ ⟨"PennyJudgeModel", "doesF", "(ID)V"⟩) ∈ lw_all := lw_g (lw_at lw_ms 47 rfl) rfl
theorem qs48 : (Cond.selects "PennyJudgeModel" ⟨"PennyJudgeModel", "rateF", "(I)D"⟩ ⟨"PennyJudgeModel", "rateF", "(I)D"⟩) ∈ lw_all := lw_g (lw_at lw_ms 48 rfl) rfl
theorem qs49 : (Cond.selects "PennyJudgeModel" ⟨"PennyJudgeModel", "splitsF", "(III)V"⟩ ⟨"PennyJudgeModel", "splitsF", "(III)V"⟩) ∈ lw_all := lw_g (lw_at lw_ms 49 rfl) rfl
theorem qs50 : (Cond.selects "PennyJudgeModel" ⟨"PennyJudgeModel", "keepsF", "(I)V"⟩ ⟨"PennyJudgeModel", "keepsF", "(I)V"⟩) ∈ lw_all := lw_g (lw_at lw_ms 50 rfl) rfl
theorem qs51 : (Cond.selects "PennyJudgeModel" ⟨"PennyJudgeModel", "triesOrder", "(I)Z"⟩ ⟨"PennyJudgeModel", "triesOrder", "(I)Z"⟩) ∈ lw_all := lw_g (lw_at lw_ms 51 rfl) rfl
theorem qs52 : (Cond.selects "PennyJudgeModel" ⟨"PennyJudgeModel", "steps", "()Z"⟩ ⟨"PennyJudgeModel", "steps", "()Z"⟩) ∈ lw_all := lw_g (lw_at lw_ms 52 rfl) rfl
theorem qs53 : (Cond.selects "PennyJudgeModel" ⟨"PennyJudgeModel", "hasChoice", "(I)Z"⟩ ⟨"PennyJudgeModel", "hasChoice", "(I)Z"⟩) ∈ lw_all := lw_g (lw_at lw_ms 53 rfl) rfl
theorem qs54 : (Cond.selects "PennyJudgeModel" ⟨"PennyJudgeModel", "chooses", "(II)V"⟩ ⟨"PennyJudgeModel", "chooses", "(II)V"⟩) ∈ lw_all := lw_g (lw_at lw_ms 54 rfl) rfl
theorem qs55 : (Cond.selects "PennyJudgeModel" ⟨"PennyJudgeModel", "refuse", "(I)I"⟩ ⟨"PennyJudgeModel", "refuse", "(I)I"⟩) ∈ lw_all := lw_g (lw_at lw_ms 55 rfl) rfl
theorem qs56 : (Cond.selects "PennyJudgeModel" ⟨"PennyJudgeModel", "lacks", "(I)I"⟩ ⟨"PennyJudgeModel", "lacks", "(I)I"⟩) ∈ lw_all := lw_g (lw_at lw_ms 56 rfl) rfl
