-- ===== PART A: goes FIRST, ahead of the names: the tables' words, and 'selects' of the private methods out of them =====
/-- a private method of a class that the tables say can be made, by its rows of tables_1 -/
def lw_okq (q : MethodName × Nat) : Prop := (q.1.cls ≠ "java/lang/invoke/MethodHandle" ∧ q.1.cls ≠ "java/lang/invoke/VarHandle") ∧ Cond.instantiable q.1.cls q.2 ∈ tables_1 ∧ Cond.privateMethod q.1 ∈ tables_1 ∧ Cond.instanceMethod q.1 ∈ tables_1
set_option maxRecDepth 100000
theorem lw_t1 {w : Cond} (h : w ∈ tables_1_1) : w ∈ tables_1 := List.mem_append_left _ h
theorem lw_t2 {w : Cond} (h : w ∈ tables_1_2) : w ∈ tables_1 := List.mem_append_right _ (List.mem_append_left _ h)
theorem lw_t3 {w : Cond} (h : w ∈ tables_1_3) : w ∈ tables_1 := List.mem_append_right _ (List.mem_append_right _ (List.mem_append_left _ h))
theorem lw_t4 {w : Cond} (h : w ∈ tables_1_4) : w ∈ tables_1 := List.mem_append_right _ (List.mem_append_right _ (List.mem_append_right _ (List.mem_append_left _ h)))
theorem lw_t5 {w : Cond} (h : w ∈ tables_1_5) : w ∈ tables_1 := List.mem_append_right _ (List.mem_append_right _ (List.mem_append_right _ (List.mem_append_right _ h)))
theorem lw_p0 : lw_okq (⟨"java/lang/NullPointerException", "getExtendedNPEMessage", "()Ljava/lang/String;"⟩, 8) := ⟨⟨by decide +kernel, by decide +kernel⟩, lw_t1 (List.mem_of_getElem? (i := 140) rfl), lw_t1 (List.mem_of_getElem? (i := 138) rfl), lw_t1 (List.mem_of_getElem? (i := 139) rfl)⟩
theorem lw_p1 : lw_okq (⟨"java/lang/Throwable", "fillInStackTrace", "(I)Ljava/lang/Throwable;"⟩, 6) := ⟨⟨by decide +kernel, by decide +kernel⟩, lw_t1 (List.mem_of_getElem? (i := 153) rfl), lw_t1 (List.mem_of_getElem? (i := 151) rfl), lw_t1 (List.mem_of_getElem? (i := 152) rfl)⟩
theorem lw_p2 : lw_okq (⟨"LevelScores", "keepNew", "(LLevelScores$Score;)I"⟩, 17) := ⟨⟨by decide +kernel, by decide +kernel⟩, lw_t1 (List.mem_of_getElem? (i := 26) rfl), lw_t1 (List.mem_of_getElem? (i := 239) rfl), lw_t2 (List.mem_of_getElem? (i := 0) rfl)⟩
theorem lw_p3 : lw_okq (⟨"LevelScores", "isScore", "(I)Z"⟩, 17) := ⟨⟨by decide +kernel, by decide +kernel⟩, lw_t1 (List.mem_of_getElem? (i := 26) rfl), lw_t2 (List.mem_of_getElem? (i := 55) rfl), lw_t2 (List.mem_of_getElem? (i := 56) rfl)⟩
theorem lw_p4 : lw_okq (⟨"LevelScores", "portions", "(LLevelScores$Score;II)LLevelScores$Score;"⟩, 17) := ⟨⟨by decide +kernel, by decide +kernel⟩, lw_t1 (List.mem_of_getElem? (i := 26) rfl), lw_t3 (List.mem_of_getElem? (i := 51) rfl), lw_t3 (List.mem_of_getElem? (i := 52) rfl)⟩
theorem lw_p5 : lw_okq (⟨"LevelScores", "portion", "(JII)J"⟩, 17) := ⟨⟨by decide +kernel, by decide +kernel⟩, lw_t1 (List.mem_of_getElem? (i := 26) rfl), lw_t3 (List.mem_of_getElem? (i := 55) rfl), lw_t3 (List.mem_of_getElem? (i := 56) rfl)⟩
theorem lw_p6 : lw_okq (⟨"LevelScores", "clearWide", "()V"⟩, 17) := ⟨⟨by decide +kernel, by decide +kernel⟩, lw_t1 (List.mem_of_getElem? (i := 26) rfl), lw_t3 (List.mem_of_getElem? (i := 59) rfl), lw_t3 (List.mem_of_getElem? (i := 60) rfl)⟩
theorem lw_p7 : lw_okq (⟨"LevelScores", "addTimes", "(JJ)V"⟩, 17) := ⟨⟨by decide +kernel, by decide +kernel⟩, lw_t1 (List.mem_of_getElem? (i := 26) rfl), lw_t3 (List.mem_of_getElem? (i := 63) rfl), lw_t3 (List.mem_of_getElem? (i := 64) rfl)⟩
theorem lw_p8 : lw_okq (⟨"LevelScores", "level", "()V"⟩, 17) := ⟨⟨by decide +kernel, by decide +kernel⟩, lw_t1 (List.mem_of_getElem? (i := 26) rfl), lw_t3 (List.mem_of_getElem? (i := 68) rfl), lw_t3 (List.mem_of_getElem? (i := 69) rfl)⟩
theorem lw_p9 : lw_okq (⟨"LevelScores", "narrow", "()J"⟩, 17) := ⟨⟨by decide +kernel, by decide +kernel⟩, lw_t1 (List.mem_of_getElem? (i := 26) rfl), lw_t3 (List.mem_of_getElem? (i := 72) rfl), lw_t3 (List.mem_of_getElem? (i := 73) rfl)⟩
theorem lw_p10 : lw_okq (⟨"LevelScores", "text", "()LLevelScores$Score;"⟩, 17) := ⟨⟨by decide +kernel, by decide +kernel⟩, lw_t1 (List.mem_of_getElem? (i := 26) rfl), lw_t3 (List.mem_of_getElem? (i := 90) rfl), lw_t3 (List.mem_of_getElem? (i := 91) rfl)⟩
theorem lw_p11 : lw_okq (⟨"LevelScores", "now", "()I"⟩, 17) := ⟨⟨by decide +kernel, by decide +kernel⟩, lw_t1 (List.mem_of_getElem? (i := 26) rfl), lw_t3 (List.mem_of_getElem? (i := 94) rfl), lw_t3 (List.mem_of_getElem? (i := 95) rfl)⟩
theorem lw_p12 : lw_okq (⟨"LevelScores", "bent", "()LLevelScores$Score;"⟩, 17) := ⟨⟨by decide +kernel, by decide +kernel⟩, lw_t1 (List.mem_of_getElem? (i := 26) rfl), lw_t3 (List.mem_of_getElem? (i := 98) rfl), lw_t3 (List.mem_of_getElem? (i := 99) rfl)⟩
theorem lw_p13 : lw_okq (⟨"LevelScores", "row", "(IZ)I"⟩, 17) := ⟨⟨by decide +kernel, by decide +kernel⟩, lw_t1 (List.mem_of_getElem? (i := 26) rfl), lw_t3 (List.mem_of_getElem? (i := 102) rfl), lw_t3 (List.mem_of_getElem? (i := 103) rfl)⟩
theorem lw_p14 : lw_okq (⟨"LevelScores", "want", "(Ljava/lang/String;)V"⟩, 17) := ⟨⟨by decide +kernel, by decide +kernel⟩, lw_t1 (List.mem_of_getElem? (i := 26) rfl), lw_t3 (List.mem_of_getElem? (i := 107) rfl), lw_t3 (List.mem_of_getElem? (i := 108) rfl)⟩
theorem lw_p15 : lw_okq (⟨"LevelScores", "none", "()V"⟩, 17) := ⟨⟨by decide +kernel, by decide +kernel⟩, lw_t1 (List.mem_of_getElem? (i := 26) rfl), lw_t3 (List.mem_of_getElem? (i := 159) rfl), lw_t3 (List.mem_of_getElem? (i := 160) rfl)⟩
def lw_privs_1 : List (MethodName × Nat) := [(⟨"java/lang/NullPointerException", "getExtendedNPEMessage", "()Ljava/lang/String;"⟩, 8), (⟨"java/lang/Throwable", "fillInStackTrace", "(I)Ljava/lang/Throwable;"⟩, 6), (⟨"LevelScores", "keepNew", "(LLevelScores$Score;)I"⟩, 17), (⟨"LevelScores", "isScore", "(I)Z"⟩, 17), (⟨"LevelScores", "portions", "(LLevelScores$Score;II)LLevelScores$Score;"⟩, 17), (⟨"LevelScores", "portion", "(JII)J"⟩, 17), (⟨"LevelScores", "clearWide", "()V"⟩, 17), (⟨"LevelScores", "addTimes", "(JJ)V"⟩, 17), (⟨"LevelScores", "level", "()V"⟩, 17), (⟨"LevelScores", "narrow", "()J"⟩, 17), (⟨"LevelScores", "text", "()LLevelScores$Score;"⟩, 17), (⟨"LevelScores", "now", "()I"⟩, 17), (⟨"LevelScores", "bent", "()LLevelScores$Score;"⟩, 17), (⟨"LevelScores", "row", "(IZ)I"⟩, 17), (⟨"LevelScores", "want", "(Ljava/lang/String;)V"⟩, 17), (⟨"LevelScores", "none", "()V"⟩, 17)]
theorem lw_r1 : ∀ q ∈ lw_privs_1, lw_okq q := List.forall_mem_cons.mpr ⟨lw_p0, List.forall_mem_cons.mpr ⟨lw_p1, List.forall_mem_cons.mpr ⟨lw_p2, List.forall_mem_cons.mpr ⟨lw_p3, List.forall_mem_cons.mpr ⟨lw_p4, List.forall_mem_cons.mpr ⟨lw_p5, List.forall_mem_cons.mpr ⟨lw_p6, List.forall_mem_cons.mpr ⟨lw_p7, List.forall_mem_cons.mpr ⟨lw_p8, List.forall_mem_cons.mpr ⟨lw_p9, List.forall_mem_cons.mpr ⟨lw_p10, List.forall_mem_cons.mpr ⟨lw_p11, List.forall_mem_cons.mpr ⟨lw_p12, List.forall_mem_cons.mpr ⟨lw_p13, List.forall_mem_cons.mpr ⟨lw_p14, List.forall_mem_cons.mpr ⟨lw_p15, fun _ h => absurd h List.not_mem_nil⟩⟩⟩⟩⟩⟩⟩⟩⟩⟩⟩⟩⟩⟩⟩⟩
theorem lw_p16 : lw_okq (⟨"LevelScores", "number", "()J"⟩, 17) := ⟨⟨by decide +kernel, by decide +kernel⟩, lw_t1 (List.mem_of_getElem? (i := 26) rfl), lw_t3 (List.mem_of_getElem? (i := 163) rfl), lw_t3 (List.mem_of_getElem? (i := 164) rfl)⟩
theorem lw_p17 : lw_okq (⟨"LevelScores", "isFigure", "()Z"⟩, 17) := ⟨⟨by decide +kernel, by decide +kernel⟩, lw_t1 (List.mem_of_getElem? (i := 26) rfl), lw_t3 (List.mem_of_getElem? (i := 167) rfl), lw_t3 (List.mem_of_getElem? (i := 168) rfl)⟩
theorem lw_p18 : lw_okq (⟨"LevelScores", "writeScore", "(LLevelScores$Score;)V"⟩, 17) := ⟨⟨by decide +kernel, by decide +kernel⟩, lw_t1 (List.mem_of_getElem? (i := 26) rfl), lw_t3 (List.mem_of_getElem? (i := 183) rfl), lw_t3 (List.mem_of_getElem? (i := 184) rfl)⟩
theorem lw_p19 : lw_okq (⟨"LevelScores", "writeRow", "(LLevelScores$Score;II)V"⟩, 17) := ⟨⟨by decide +kernel, by decide +kernel⟩, lw_t1 (List.mem_of_getElem? (i := 26) rfl), lw_t3 (List.mem_of_getElem? (i := 188) rfl), lw_t3 (List.mem_of_getElem? (i := 189) rfl)⟩
theorem lw_p20 : lw_okq (⟨"LevelScores", "write", "(Ljava/lang/String;)V"⟩, 17) := ⟨⟨by decide +kernel, by decide +kernel⟩, lw_t1 (List.mem_of_getElem? (i := 26) rfl), lw_t3 (List.mem_of_getElem? (i := 192) rfl), lw_t3 (List.mem_of_getElem? (i := 193) rfl)⟩
theorem lw_p21 : lw_okq (⟨"LevelScores", "write", "(I)V"⟩, 17) := ⟨⟨by decide +kernel, by decide +kernel⟩, lw_t1 (List.mem_of_getElem? (i := 26) rfl), lw_t3 (List.mem_of_getElem? (i := 196) rfl), lw_t3 (List.mem_of_getElem? (i := 197) rfl)⟩
theorem lw_p22 : lw_okq (⟨"LevelScores", "write", "(J)V"⟩, 17) := ⟨⟨by decide +kernel, by decide +kernel⟩, lw_t1 (List.mem_of_getElem? (i := 26) rfl), lw_t3 (List.mem_of_getElem? (i := 201) rfl), lw_t3 (List.mem_of_getElem? (i := 202) rfl)⟩
theorem lw_p23 : lw_okq (⟨"LevelScores", "isRule", "(I)Z"⟩, 17) := ⟨⟨by decide +kernel, by decide +kernel⟩, lw_t1 (List.mem_of_getElem? (i := 26) rfl), lw_t3 (List.mem_of_getElem? (i := 223) rfl), lw_t3 (List.mem_of_getElem? (i := 224) rfl)⟩
theorem lw_p24 : lw_okq (⟨"LevelScores", "isNarrow", "(I)Z"⟩, 17) := ⟨⟨by decide +kernel, by decide +kernel⟩, lw_t1 (List.mem_of_getElem? (i := 26) rfl), lw_t3 (List.mem_of_getElem? (i := 228) rfl), lw_t3 (List.mem_of_getElem? (i := 229) rfl)⟩
theorem lw_p25 : lw_okq (⟨"LevelScores", "summed", "(II)LLevelScores$Score;"⟩, 17) := ⟨⟨by decide +kernel, by decide +kernel⟩, lw_t1 (List.mem_of_getElem? (i := 26) rfl), lw_t3 (List.mem_of_getElem? (i := 232) rfl), lw_t3 (List.mem_of_getElem? (i := 233) rfl)⟩
theorem lw_p26 : lw_okq (⟨"LevelScoresModel", "lay", "(III)V"⟩, 24) := ⟨⟨by decide +kernel, by decide +kernel⟩, lw_t4 (List.mem_of_getElem? (i := 63) rfl), lw_t4 (List.mem_of_getElem? (i := 150) rfl), lw_t4 (List.mem_of_getElem? (i := 151) rfl)⟩
theorem lw_p27 : lw_okq (⟨"LevelScoresModel", "keepScore", "()I"⟩, 24) := ⟨⟨by decide +kernel, by decide +kernel⟩, lw_t4 (List.mem_of_getElem? (i := 63) rfl), lw_t4 (List.mem_of_getElem? (i := 154) rfl), lw_t4 (List.mem_of_getElem? (i := 155) rfl)⟩
theorem lw_p28 : lw_okq (⟨"LevelScoresModel", "isNumber", "(I)Z"⟩, 24) := ⟨⟨by decide +kernel, by decide +kernel⟩, lw_t4 (List.mem_of_getElem? (i := 63) rfl), lw_t4 (List.mem_of_getElem? (i := 166) rfl), lw_t4 (List.mem_of_getElem? (i := 167) rfl)⟩
theorem lw_p29 : lw_okq (⟨"LevelScoresModel", "isNothing", "(I)Z"⟩, 24) := ⟨⟨by decide +kernel, by decide +kernel⟩, lw_t4 (List.mem_of_getElem? (i := 63) rfl), lw_t4 (List.mem_of_getElem? (i := 170) rfl), lw_t4 (List.mem_of_getElem? (i := 171) rfl)⟩
theorem lw_p30 : lw_okq (⟨"LevelScoresModel", "refusal", "(II)I"⟩, 24) := ⟨⟨by decide +kernel, by decide +kernel⟩, lw_t4 (List.mem_of_getElem? (i := 63) rfl), lw_t4 (List.mem_of_getElem? (i := 191) rfl), lw_t4 (List.mem_of_getElem? (i := 192) rfl)⟩
theorem lw_p31 : lw_okq (⟨"LevelScoresModel", "areLike", "(II)Z"⟩, 24) := ⟨⟨by decide +kernel, by decide +kernel⟩, lw_t4 (List.mem_of_getElem? (i := 63) rfl), lw_t4 (List.mem_of_getElem? (i := 195) rfl), lw_t4 (List.mem_of_getElem? (i := 196) rfl)⟩
def lw_privs_2 : List (MethodName × Nat) := [(⟨"LevelScores", "number", "()J"⟩, 17), (⟨"LevelScores", "isFigure", "()Z"⟩, 17), (⟨"LevelScores", "writeScore", "(LLevelScores$Score;)V"⟩, 17), (⟨"LevelScores", "writeRow", "(LLevelScores$Score;II)V"⟩, 17), (⟨"LevelScores", "write", "(Ljava/lang/String;)V"⟩, 17), (⟨"LevelScores", "write", "(I)V"⟩, 17), (⟨"LevelScores", "write", "(J)V"⟩, 17), (⟨"LevelScores", "isRule", "(I)Z"⟩, 17), (⟨"LevelScores", "isNarrow", "(I)Z"⟩, 17), (⟨"LevelScores", "summed", "(II)LLevelScores$Score;"⟩, 17), (⟨"LevelScoresModel", "lay", "(III)V"⟩, 24), (⟨"LevelScoresModel", "keepScore", "()I"⟩, 24), (⟨"LevelScoresModel", "isNumber", "(I)Z"⟩, 24), (⟨"LevelScoresModel", "isNothing", "(I)Z"⟩, 24), (⟨"LevelScoresModel", "refusal", "(II)I"⟩, 24), (⟨"LevelScoresModel", "areLike", "(II)Z"⟩, 24)]
theorem lw_r2 : ∀ q ∈ lw_privs_2, lw_okq q := List.forall_mem_cons.mpr ⟨lw_p16, List.forall_mem_cons.mpr ⟨lw_p17, List.forall_mem_cons.mpr ⟨lw_p18, List.forall_mem_cons.mpr ⟨lw_p19, List.forall_mem_cons.mpr ⟨lw_p20, List.forall_mem_cons.mpr ⟨lw_p21, List.forall_mem_cons.mpr ⟨lw_p22, List.forall_mem_cons.mpr ⟨lw_p23, List.forall_mem_cons.mpr ⟨lw_p24, List.forall_mem_cons.mpr ⟨lw_p25, List.forall_mem_cons.mpr ⟨lw_p26, List.forall_mem_cons.mpr ⟨lw_p27, List.forall_mem_cons.mpr ⟨lw_p28, List.forall_mem_cons.mpr ⟨lw_p29, List.forall_mem_cons.mpr ⟨lw_p30, List.forall_mem_cons.mpr ⟨lw_p31, fun _ h => absurd h List.not_mem_nil⟩⟩⟩⟩⟩⟩⟩⟩⟩⟩⟩⟩⟩⟩⟩⟩
theorem lw_p32 : lw_okq (⟨"LevelScoresModel", "compare", "([JI[JII)I"⟩, 24) := ⟨⟨by decide +kernel, by decide +kernel⟩, lw_t4 (List.mem_of_getElem? (i := 63) rfl), lw_t4 (List.mem_of_getElem? (i := 199) rfl), lw_t4 (List.mem_of_getElem? (i := 200) rfl)⟩
theorem lw_p33 : lw_okq (⟨"LevelScoresModel", "zero", "()V"⟩, 24) := ⟨⟨by decide +kernel, by decide +kernel⟩, lw_t4 (List.mem_of_getElem? (i := 63) rfl), lw_t4 (List.mem_of_getElem? (i := 203) rfl), lw_t4 (List.mem_of_getElem? (i := 204) rfl)⟩
theorem lw_p34 : lw_okq (⟨"LevelScoresModel", "add", "(JJ)V"⟩, 24) := ⟨⟨by decide +kernel, by decide +kernel⟩, lw_t4 (List.mem_of_getElem? (i := 63) rfl), lw_t4 (List.mem_of_getElem? (i := 207) rfl), lw_t4 (List.mem_of_getElem? (i := 208) rfl)⟩
theorem lw_p35 : lw_okq (⟨"LevelScoresModel", "fits", "()Z"⟩, 24) := ⟨⟨by decide +kernel, by decide +kernel⟩, lw_t4 (List.mem_of_getElem? (i := 63) rfl), lw_t4 (List.mem_of_getElem? (i := 213) rfl), lw_t4 (List.mem_of_getElem? (i := 214) rfl)⟩
theorem lw_p36 : lw_okq (⟨"LevelScoresModel", "number", "()J"⟩, 24) := ⟨⟨by decide +kernel, by decide +kernel⟩, lw_t4 (List.mem_of_getElem? (i := 63) rfl), lw_t4 (List.mem_of_getElem? (i := 219) rfl), lw_t4 (List.mem_of_getElem? (i := 220) rfl)⟩
theorem lw_p37 : lw_okq (⟨"LevelScoresModel", "here", "()I"⟩, 24) := ⟨⟨by decide +kernel, by decide +kernel⟩, lw_t4 (List.mem_of_getElem? (i := 63) rfl), lw_t5 (List.mem_of_getElem? (i := 0) rfl), lw_t5 (List.mem_of_getElem? (i := 1) rfl)⟩
theorem lw_p38 : lw_okq (⟨"LevelScoresModel", "bent", "()V"⟩, 24) := ⟨⟨by decide +kernel, by decide +kernel⟩, lw_t4 (List.mem_of_getElem? (i := 63) rfl), lw_t5 (List.mem_of_getElem? (i := 4) rfl), lw_t5 (List.mem_of_getElem? (i := 5) rfl)⟩
theorem lw_p39 : lw_okq (⟨"LevelScoresModel", "take", "(I)V"⟩, 24) := ⟨⟨by decide +kernel, by decide +kernel⟩, lw_t4 (List.mem_of_getElem? (i := 63) rfl), lw_t5 (List.mem_of_getElem? (i := 8) rfl), lw_t5 (List.mem_of_getElem? (i := 9) rfl)⟩
theorem lw_p40 : lw_okq (⟨"LevelScoresModel", "row", "(I)I"⟩, 24) := ⟨⟨by decide +kernel, by decide +kernel⟩, lw_t4 (List.mem_of_getElem? (i := 63) rfl), lw_t5 (List.mem_of_getElem? (i := 12) rfl), lw_t5 (List.mem_of_getElem? (i := 13) rfl)⟩
theorem lw_p41 : lw_okq (⟨"LevelScoresModel", "figure", "()V"⟩, 24) := ⟨⟨by decide +kernel, by decide +kernel⟩, lw_t4 (List.mem_of_getElem? (i := 63) rfl), lw_t5 (List.mem_of_getElem? (i := 16) rfl), lw_t5 (List.mem_of_getElem? (i := 17) rfl)⟩
theorem lw_p42 : lw_okq (⟨"LevelScoresModel", "isFigure", "()Z"⟩, 24) := ⟨⟨by decide +kernel, by decide +kernel⟩, lw_t4 (List.mem_of_getElem? (i := 63) rfl), lw_t5 (List.mem_of_getElem? (i := 20) rfl), lw_t5 (List.mem_of_getElem? (i := 21) rfl)⟩
theorem lw_p43 : lw_okq (⟨"LevelScoresModel", "level", "(I)V"⟩, 24) := ⟨⟨by decide +kernel, by decide +kernel⟩, lw_t4 (List.mem_of_getElem? (i := 63) rfl), lw_t5 (List.mem_of_getElem? (i := 28) rfl), lw_t5 (List.mem_of_getElem? (i := 29) rfl)⟩
theorem lw_p44 : lw_okq (⟨"LevelScoresModel", "word", "(I)V"⟩, 24) := ⟨⟨by decide +kernel, by decide +kernel⟩, lw_t4 (List.mem_of_getElem? (i := 63) rfl), lw_t5 (List.mem_of_getElem? (i := 32) rfl), lw_t5 (List.mem_of_getElem? (i := 33) rfl)⟩
theorem lw_p45 : lw_okq (⟨"LevelScoresModel", "plain", "()V"⟩, 24) := ⟨⟨by decide +kernel, by decide +kernel⟩, lw_t4 (List.mem_of_getElem? (i := 63) rfl), lw_t5 (List.mem_of_getElem? (i := 39) rfl), lw_t5 (List.mem_of_getElem? (i := 40) rfl)⟩
theorem lw_p46 : lw_okq (⟨"LevelScoresModel", "writeRow", "(III)V"⟩, 24) := ⟨⟨by decide +kernel, by decide +kernel⟩, lw_t4 (List.mem_of_getElem? (i := 63) rfl), lw_t5 (List.mem_of_getElem? (i := 47) rfl), lw_t5 (List.mem_of_getElem? (i := 48) rfl)⟩
theorem lw_p47 : lw_okq (⟨"LevelScoresModel", "write", "(I)V"⟩, 24) := ⟨⟨by decide +kernel, by decide +kernel⟩, lw_t4 (List.mem_of_getElem? (i := 63) rfl), lw_t5 (List.mem_of_getElem? (i := 51) rfl), lw_t5 (List.mem_of_getElem? (i := 52) rfl)⟩
def lw_privs_3 : List (MethodName × Nat) := [(⟨"LevelScoresModel", "compare", "([JI[JII)I"⟩, 24), (⟨"LevelScoresModel", "zero", "()V"⟩, 24), (⟨"LevelScoresModel", "add", "(JJ)V"⟩, 24), (⟨"LevelScoresModel", "fits", "()Z"⟩, 24), (⟨"LevelScoresModel", "number", "()J"⟩, 24), (⟨"LevelScoresModel", "here", "()I"⟩, 24), (⟨"LevelScoresModel", "bent", "()V"⟩, 24), (⟨"LevelScoresModel", "take", "(I)V"⟩, 24), (⟨"LevelScoresModel", "row", "(I)I"⟩, 24), (⟨"LevelScoresModel", "figure", "()V"⟩, 24), (⟨"LevelScoresModel", "isFigure", "()Z"⟩, 24), (⟨"LevelScoresModel", "level", "(I)V"⟩, 24), (⟨"LevelScoresModel", "word", "(I)V"⟩, 24), (⟨"LevelScoresModel", "plain", "()V"⟩, 24), (⟨"LevelScoresModel", "writeRow", "(III)V"⟩, 24), (⟨"LevelScoresModel", "write", "(I)V"⟩, 24)]
theorem lw_r3 : ∀ q ∈ lw_privs_3, lw_okq q := List.forall_mem_cons.mpr ⟨lw_p32, List.forall_mem_cons.mpr ⟨lw_p33, List.forall_mem_cons.mpr ⟨lw_p34, List.forall_mem_cons.mpr ⟨lw_p35, List.forall_mem_cons.mpr ⟨lw_p36, List.forall_mem_cons.mpr ⟨lw_p37, List.forall_mem_cons.mpr ⟨lw_p38, List.forall_mem_cons.mpr ⟨lw_p39, List.forall_mem_cons.mpr ⟨lw_p40, List.forall_mem_cons.mpr ⟨lw_p41, List.forall_mem_cons.mpr ⟨lw_p42, List.forall_mem_cons.mpr ⟨lw_p43, List.forall_mem_cons.mpr ⟨lw_p44, List.forall_mem_cons.mpr ⟨lw_p45, List.forall_mem_cons.mpr ⟨lw_p46, List.forall_mem_cons.mpr ⟨lw_p47, fun _ h => absurd h List.not_mem_nil⟩⟩⟩⟩⟩⟩⟩⟩⟩⟩⟩⟩⟩⟩⟩⟩
theorem lw_p48 : lw_okq (⟨"LevelScoresModel", "writeNumber", "(J)V"⟩, 24) := ⟨⟨by decide +kernel, by decide +kernel⟩, lw_t4 (List.mem_of_getElem? (i := 63) rfl), lw_t5 (List.mem_of_getElem? (i := 55) rfl), lw_t5 (List.mem_of_getElem? (i := 56) rfl)⟩
theorem lw_p49 : lw_okq (⟨"LevelScoresModel", "writeWord", "(I)V"⟩, 24) := ⟨⟨by decide +kernel, by decide +kernel⟩, lw_t4 (List.mem_of_getElem? (i := 63) rfl), lw_t5 (List.mem_of_getElem? (i := 61) rfl), lw_t5 (List.mem_of_getElem? (i := 62) rfl)⟩
theorem lw_p50 : lw_okq (⟨"LevelScoresModel", "isLikePlan", "(I)Z"⟩, 24) := ⟨⟨by decide +kernel, by decide +kernel⟩, lw_t4 (List.mem_of_getElem? (i := 63) rfl), lw_t5 (List.mem_of_getElem? (i := 77) rfl), lw_t5 (List.mem_of_getElem? (i := 78) rfl)⟩
theorem lw_p51 : lw_okq (⟨"LevelScoresModel", "hasRoom", "()Z"⟩, 24) := ⟨⟨by decide +kernel, by decide +kernel⟩, lw_t4 (List.mem_of_getElem? (i := 63) rfl), lw_t5 (List.mem_of_getElem? (i := 86) rfl), lw_t5 (List.mem_of_getElem? (i := 87) rfl)⟩
theorem lw_p52 : lw_okq (⟨"LevelScoresModel", "layPart", "(II)V"⟩, 24) := ⟨⟨by decide +kernel, by decide +kernel⟩, lw_t4 (List.mem_of_getElem? (i := 63) rfl), lw_t5 (List.mem_of_getElem? (i := 90) rfl), lw_t5 (List.mem_of_getElem? (i := 91) rfl)⟩
def lw_privs_4 : List (MethodName × Nat) := [(⟨"LevelScoresModel", "writeNumber", "(J)V"⟩, 24), (⟨"LevelScoresModel", "writeWord", "(I)V"⟩, 24), (⟨"LevelScoresModel", "isLikePlan", "(I)Z"⟩, 24), (⟨"LevelScoresModel", "hasRoom", "()Z"⟩, 24), (⟨"LevelScoresModel", "layPart", "(II)V"⟩, 24)]
theorem lw_r4 : ∀ q ∈ lw_privs_4, lw_okq q := List.forall_mem_cons.mpr ⟨lw_p48, List.forall_mem_cons.mpr ⟨lw_p49, List.forall_mem_cons.mpr ⟨lw_p50, List.forall_mem_cons.mpr ⟨lw_p51, List.forall_mem_cons.mpr ⟨lw_p52, fun _ h => absurd h List.not_mem_nil⟩⟩⟩⟩⟩
def lw_privs : List (MethodName × Nat) := lw_privs_1 ++ (lw_privs_2 ++ (lw_privs_3 ++ (lw_privs_4)))
def lw_tbl : List Cond := k2_sels lw_privs ++ tables_1
theorem lw_privs_ok : ∀ q ∈ lw_privs, lw_okq q := by
  show ∀ q ∈ lw_privs_1 ++ (lw_privs_2 ++ (lw_privs_3 ++ (lw_privs_4))), lw_okq q
  exact List.forall_mem_append.mpr ⟨lw_r1, List.forall_mem_append.mpr ⟨lw_r2, List.forall_mem_append.mpr ⟨lw_r3, lw_r4⟩⟩⟩
-- ===== ONE list of words for every method: the tables' words that hold all through a run =====
def lw_all : List Cond := lw_tbl.filter goodWord
/-- a word of the tables by its place: claim/WORDS.tsv -/
theorem lw_w {w : Cond} (i : Nat) (h : lw_tbl[i]? = some w) (g : goodWord w = true) : w ∈ lw_all := List.mem_filter.mpr ⟨List.mem_of_getElem? h, g⟩
theorem lw_all_tbl {w : Cond} (h : w ∈ lw_all) : w ∈ lw_tbl := (List.mem_filter.mp h).1
theorem lw_self : GoodIn lw_all lw_all := fun w h => ⟨h, good_of_word (List.mem_filter.mp h).2⟩
/-- a class's field words, by their places -/
theorem lw_in (ws : List Cond) (ps : List Nat) (hp : ws = ps.filterMap (fun i => lw_tbl[i]?)) (hg : ws.all goodWord = true) : ∀ w ∈ ws, w ∈ lw_all := by
  intro w h
  have h1 := List.all_eq_true.mp hg w h
  rw [hp] at h
  obtain ⟨i, -, hi⟩ := List.mem_filterMap.mp h
  exact lw_w i hi h1
/-- the words of a contract for the method y with code b, L locals, answer r -/
abbrev ws_ (y : MethodName) (b : ByteArray) (L : Nat) (r : Option FieldType) : List Cond := Cond.code y b L r :: lw_all
theorem lw_meth {y : MethodName} {b : ByteArray} {L : Nat} {r : Option FieldType} (h : Cond.code y b L r ∈ lw_all) : GoodIn lw_all (ws_ y b L r) := by
  intro w hw
  rcases List.mem_cons.mp hw with e | e
  · rw [e]
    exact lw_self _ h
  · exact lw_self _ e
theorem lw_app {a c : List Cond} (ha : ∀ w ∈ a, w ∈ lw_all) (hc : GoodIn lw_all c) : GoodIn lw_all (a ++ c) := by
  intro w hw
  rcases List.mem_append.mp hw with e | e
  · exact lw_self w (ha w e)
  · exact hc w e
/-- what a call through an object asks: cwV n hts (lw_V ..) -/
theorem lw_V {own : String} {idx : Nat} {C : String} {y : MethodName} {b : ByteArray} {L : Nat} {r : Option FieldType} (h1 : Cond.methodLink own idx y ∈ lw_all) (h2 : Cond.instanceMethod y ∈ lw_all) (h3 : Cond.selects C y y ∈ lw_all) (h4 : Cond.initialized C ∈ lw_all) (h5 : Cond.code y b L r ∈ lw_all) : GoodIn lw_all (wsV own idx C y (ws_ y b L r)) := by
  refine lw_app ?_ (lw_meth h5)
  intro w hw
  simp only [List.mem_cons, List.not_mem_nil, or_false] at hw
  rcases hw with e | e | e | e
  · rw [e]; exact h1
  · rw [e]; exact h2
  · rw [e]; exact h3
  · rw [e]; exact h4
/-- what a static call asks: va_cwS n hts (lw_S ..) -/
theorem lw_S {own : String} {idx : Nat} {y : MethodName} {b : ByteArray} {L : Nat} {r : Option FieldType} (h1 : Cond.methodLink own idx y ∈ lw_all) (h2 : Cond.static y ∈ lw_all) (h3 : Cond.initialized y.cls ∈ lw_all) (h4 : Cond.code y b L r ∈ lw_all) : GoodIn lw_all (va_wsS own idx y (ws_ y b L r)) := by
  refine lw_app ?_ (lw_meth h4)
  intro w hw
  simp only [List.mem_cons, List.not_mem_nil, or_false] at hw
  rcases hw with e | e | e
  · rw [e]; exact h1
  · rw [e]; exact h2
  · rw [e]; exact h3
/-- the words of a contract for a method WITH HANDLERS (hh: its table) -/
abbrev wsW_ (y : MethodName) (b : ByteArray) (L : Nat) (r : Option FieldType) (hh : List (Nat × Nat × Nat × Nat)) : List Cond := Cond.codeWith y b L r hh :: lw_all
theorem lw_methW {y : MethodName} {b : ByteArray} {L : Nat} {r : Option FieldType} {hh : List (Nat × Nat × Nat × Nat)} (h : Cond.codeWith y b L r hh ∈ lw_all) : GoodIn lw_all (wsW_ y b L r hh) := by
  intro w hw
  rcases List.mem_cons.mp hw with e | e
  · rw [e]
    exact lw_self _ h
  · exact lw_self _ e
/-- any list of words by their places (lw_in), good -/
theorem lw_good {ws : List Cond} (h : ∀ w ∈ ws, w ∈ lw_all) : GoodIn lw_all ws := fun w hw => lw_self w (h w hw)
/-- what a call of a method with handlers asks: vx_cwVW n hts (lw_VW ..), vx_cwSW n hts (lw_SW ..) -/
theorem lw_VW {own : String} {idx : Nat} {C : String} {y : MethodName} {b : ByteArray} {L : Nat} {r : Option FieldType} {hh : List (Nat × Nat × Nat × Nat)} (h1 : Cond.methodLink own idx y ∈ lw_all) (h2 : Cond.instanceMethod y ∈ lw_all) (h3 : Cond.selects C y y ∈ lw_all) (h4 : Cond.initialized C ∈ lw_all) (h5 : Cond.codeWith y b L r hh ∈ lw_all) : GoodIn lw_all (wsV own idx C y (wsW_ y b L r hh)) := by
  refine lw_app ?_ (lw_methW h5)
  intro w hw
  simp only [List.mem_cons, List.not_mem_nil, or_false] at hw
  rcases hw with e | e | e | e
  · rw [e]; exact h1
  · rw [e]; exact h2
  · rw [e]; exact h3
  · rw [e]; exact h4
theorem lw_SW {own : String} {idx : Nat} {y : MethodName} {b : ByteArray} {L : Nat} {r : Option FieldType} {hh : List (Nat × Nat × Nat × Nat)} (h1 : Cond.methodLink own idx y ∈ lw_all) (h2 : Cond.static y ∈ lw_all) (h3 : Cond.initialized y.cls ∈ lw_all) (h4 : Cond.codeWith y b L r hh ∈ lw_all) : GoodIn lw_all (va_wsS own idx y (wsW_ y b L r hh)) := by
  refine lw_app ?_ (lw_methW h4)
  intro w hw
  simp only [List.mem_cons, List.not_mem_nil, or_false] at hw
  rcases hw with e | e | e
  · rw [e]; exact h1
  · rw [e]; exact h2
  · rw [e]; exact h3
/-- a word by its place in its run of the tables -/
theorem lw_at {r : List Cond} (hr : ∀ w ∈ r, w ∈ lw_tbl) {w : Cond} (i : Nat) (h : r[i]? = some w) : w ∈ lw_tbl := hr w (List.mem_of_getElem? h)
theorem lw_g {w : Cond} (h : w ∈ lw_tbl) (g : goodWord w = true) : w ∈ lw_all := List.mem_filter.mpr ⟨h, g⟩
theorem lw_ms : ∀ w ∈ k2_sels lw_privs, w ∈ lw_tbl := fun w h => show w ∈ k2_sels lw_privs ++ tables_1 from List.mem_append_left _ h
theorem lw_m1 : ∀ w ∈ tables_1_1, w ∈ lw_tbl := fun w h => show w ∈ k2_sels lw_privs ++ tables_1 from List.mem_append_right (k2_sels lw_privs) (show w ∈ tables_1 from List.mem_append_left _ h)
theorem lw_m2 : ∀ w ∈ tables_1_2, w ∈ lw_tbl := fun w h => show w ∈ k2_sels lw_privs ++ tables_1 from List.mem_append_right (k2_sels lw_privs) (show w ∈ tables_1 from List.mem_append_right _ (List.mem_append_left _ h))
theorem lw_m3 : ∀ w ∈ tables_1_3, w ∈ lw_tbl := fun w h => show w ∈ k2_sels lw_privs ++ tables_1 from List.mem_append_right (k2_sels lw_privs) (show w ∈ tables_1 from List.mem_append_right _ (List.mem_append_right _ (List.mem_append_left _ h)))
theorem lw_m4 : ∀ w ∈ tables_1_4, w ∈ lw_tbl := fun w h => show w ∈ k2_sels lw_privs ++ tables_1 from List.mem_append_right (k2_sels lw_privs) (show w ∈ tables_1 from List.mem_append_right _ (List.mem_append_right _ (List.mem_append_right _ (List.mem_append_left _ h))))
theorem lw_m5 : ∀ w ∈ tables_1_5, w ∈ lw_tbl := fun w h => show w ∈ k2_sels lw_privs ++ tables_1 from List.mem_append_right (k2_sels lw_privs) (show w ∈ tables_1 from List.mem_append_right _ (List.mem_append_right _ (List.mem_append_right _ (List.mem_append_right _ h))))
theorem qs0 : (Cond.selects "java/lang/NullPointerException" ⟨"java/lang/NullPointerException", "getExtendedNPEMessage", "()Ljava/lang/String;"⟩ ⟨"java/lang/NullPointerException", "getExtendedNPEMessage", "()Ljava/lang/String;"⟩) ∈ lw_all := lw_g (lw_at lw_ms 0 rfl) rfl
theorem qs1 : (Cond.selects "java/lang/Throwable" ⟨"java/lang/Throwable", "fillInStackTrace", "(I)Ljava/lang/Throwable;"⟩ ⟨"java/lang/Throwable", "fillInStackTrace", "(I)Ljava/lang/Throwable;"⟩) ∈ lw_all := lw_g (lw_at lw_ms 1 rfl) rfl
theorem qs2 : (Cond.selects "LevelScores" ⟨"LevelScores", "keepNew", "(LLevelScores$Score;)I"⟩ ⟨"LevelScores", "keepNew", "(LLevelScores$Score;)I"⟩) ∈ lw_all := lw_g (lw_at lw_ms 2 rfl) rfl
theorem qs3 : (Cond.selects "LevelScores" ⟨"LevelScores", "isScore", "(I)Z"⟩ ⟨"LevelScores", "isScore", "(I)Z"⟩) ∈ lw_all := lw_g (lw_at lw_ms 3 rfl) rfl
theorem qs4 : (Cond.selects "LevelScores" ⟨"LevelScores", "portions", "(LLevelScores$Score;II)LLevelScores$Score;"⟩ ⟨"LevelScores", "portions", "(LLevelScores$Score;II)LLevelScores$Score;"⟩) ∈ lw_all := lw_g (lw_at lw_ms 4 rfl) rfl
theorem qs5 : (Cond.selects "LevelScores" ⟨"LevelScores", "portion", "(JII)J"⟩ ⟨"LevelScores", "portion", "(JII)J"⟩) ∈ lw_all := lw_g (lw_at lw_ms 5 rfl) rfl
theorem qs6 : (Cond.selects "LevelScores" ⟨"LevelScores", "clearWide", "()V"⟩ ⟨"LevelScores", "clearWide", "()V"⟩) ∈ lw_all := lw_g (lw_at lw_ms 6 rfl) rfl
theorem qs7 : (Cond.selects "LevelScores" ⟨"LevelScores", "addTimes", "(JJ)V"⟩ ⟨"LevelScores", "addTimes", "(JJ)V"⟩) ∈ lw_all := lw_g (lw_at lw_ms 7 rfl) rfl
theorem qs8 : (Cond.selects "LevelScores" ⟨"LevelScores", "level", "()V"⟩ ⟨"LevelScores", "level", "()V"⟩) ∈ lw_all := lw_g (lw_at lw_ms 8 rfl) rfl
theorem qs9 : (Cond.selects "LevelScores" ⟨"LevelScores", "narrow", "()J"⟩ ⟨"LevelScores", "narrow", "()J"⟩) ∈ lw_all := lw_g (lw_at lw_ms 9 rfl) rfl
theorem qs10 : (Cond.selects "LevelScores" ⟨"LevelScores", "text", "()LLevelScores$Score;"⟩ ⟨"LevelScores", "text", "()LLevelScores$Score;"⟩) ∈ lw_all := lw_g (lw_at lw_ms 10 rfl) rfl
theorem qs11 : (Cond.selects "LevelScores" ⟨"LevelScores", "now", "()I"⟩ ⟨"LevelScores", "now", "()I"⟩) ∈ lw_all := lw_g (lw_at lw_ms 11 rfl) rfl
theorem qs12 : (Cond.selects "LevelScores" ⟨"LevelScores", "bent", "()LLevelScores$Score;"⟩ ⟨"LevelScores", "bent", "()LLevelScores$Score;"⟩) ∈ lw_all := lw_g (lw_at lw_ms 12 rfl) rfl
theorem qs13 : (Cond.selects "LevelScores" ⟨"LevelScores", "row", "(IZ)I"⟩ ⟨"LevelScores", "row", "(IZ)I"⟩) ∈ lw_all := lw_g (lw_at lw_ms 13 rfl) rfl
theorem qs14 : (Cond.selects "LevelScores" ⟨"LevelScores", "want", "(Ljava/lang/String;)V"⟩ ⟨"LevelScores", "want", "(Ljava/lang/String;)V"⟩) ∈ lw_all := lw_g (lw_at lw_ms 14 rfl) rfl
theorem qs15 : (Cond.selects "LevelScores" ⟨"LevelScores", "none", "()V"⟩ ⟨"LevelScores", "none", "()V"⟩) ∈ lw_all := lw_g (lw_at lw_ms 15 rfl) rfl
theorem qs16 : (Cond.selects "LevelScores" ⟨"LevelScores", "number", "()J"⟩ ⟨"LevelScores", "number", "()J"⟩) ∈ lw_all := lw_g (lw_at lw_ms 16 rfl) rfl
theorem qs17 : (Cond.selects "LevelScores" ⟨"LevelScores", "isFigure", "()Z"⟩ ⟨"LevelScores", "isFigure", "()Z"⟩) ∈ lw_all := lw_g (lw_at lw_ms 17 rfl) rfl
theorem qs18 : (Cond.selects "LevelScores" ⟨"LevelScores", "writeScore", "(LLevelScores$Score;)V"⟩ ⟨"LevelScores", "writeScore", "(LLevelScores$Score;)V"⟩) ∈ lw_all := lw_g (lw_at lw_ms 18 rfl) rfl
theorem qs19 : (Cond.selects "LevelScores" ⟨"LevelScores", "writeRow", "(LLevelScores$Score;II)V"⟩ ⟨"LevelScores", "writeRow", "(LLevelScores$Score;II)V"⟩) ∈ lw_all := lw_g (lw_at lw_ms 19 rfl) rfl
theorem qs20 : (Cond.selects "LevelScores" ⟨"LevelScores", "write", "(Ljava/lang/String;)V"⟩ ⟨"LevelScores", "write", "(Ljava/lang/String;)V"⟩) ∈ lw_all := lw_g (lw_at lw_ms 20 rfl) rfl
theorem qs21 : (Cond.selects "LevelScores" ⟨"LevelScores", "write", "(I)V"⟩ ⟨"LevelScores", "write", "(I)V"⟩) ∈ lw_all := lw_g (lw_at lw_ms 21 rfl) rfl
theorem qs22 : (Cond.selects "LevelScores" ⟨"LevelScores", "write", "(J)V"⟩ ⟨"LevelScores", "write", "(J)V"⟩) ∈ lw_all := lw_g (lw_at lw_ms 22 rfl) rfl
theorem qs23 : (Cond.selects "LevelScores" ⟨"LevelScores", "isRule", "(I)Z"⟩ ⟨"LevelScores", "isRule", "(I)Z"⟩) ∈ lw_all := lw_g (lw_at lw_ms 23 rfl) rfl
theorem qs24 : (Cond.selects "LevelScores" ⟨"LevelScores", "isNarrow", "(I)Z"⟩ ⟨"LevelScores", "isNarrow", "(I)Z"⟩) ∈ lw_all := lw_g (lw_at lw_ms 24 rfl) rfl
theorem qs25 : (Cond.selects "LevelScores" ⟨"LevelScores", "summed", "(II)LLevelScores$Score;"⟩ ⟨"LevelScores", "summed", "(II)LLevelScores$Score;"⟩) ∈ lw_all := lw_g (lw_at lw_ms 25 rfl) rfl
theorem qs26 : (Cond.selects "LevelScoresModel" ⟨"LevelScoresModel", "lay", "(III)V"⟩ ⟨"LevelScoresModel", "lay", "(III)V"⟩) ∈ lw_all := lw_g (lw_at lw_ms 26 rfl) rfl
theorem qs27 : (Cond.selects "LevelScoresModel" ⟨"LevelScoresModel", "keepScore", "()I"⟩ ⟨"LevelScoresModel", "keepScore", "()I"⟩) ∈ lw_all := lw_g (lw_at lw_ms 27 rfl) rfl
theorem qs28 : (Cond.selects "LevelScoresModel" ⟨"LevelScoresModel", "isNumber", "(I)Z"⟩ ⟨"LevelScoresModel", "isNumber", "(I)Z"⟩) ∈ lw_all := lw_g (lw_at lw_ms 28 rfl) rfl
theorem qs29 : (Cond.selects "LevelScoresModel" ⟨"LevelScoresModel", "isNothing", "(I)Z"⟩ ⟨"LevelScoresModel", "isNothing", "(I)Z"⟩) ∈ lw_all := lw_g (lw_at lw_ms 29 rfl) rfl
theorem qs30 : (Cond.selects "LevelScoresModel" ⟨"LevelScoresModel", "refusal", "(II)I"⟩ ⟨"LevelScoresModel", "refusal", "(II)I"⟩) ∈ lw_all := lw_g (lw_at lw_ms 30 rfl) rfl
theorem qs31 : (Cond.selects "LevelScoresModel" ⟨"LevelScoresModel", "areLike", "(II)Z"⟩ ⟨"LevelScoresModel", "areLike", "(II)Z"⟩) ∈ lw_all := lw_g (lw_at lw_ms 31 rfl) rfl
theorem qs32 : (Cond.selects "LevelScoresModel" ⟨"LevelScoresModel", "compare", "([JI[JII)I"⟩ ⟨"LevelScoresModel", "compare", "([JI[JII)I"⟩) ∈ lw_all := lw_g (lw_at lw_ms 32 rfl) rfl
theorem qs33 : (Cond.selects "LevelScoresModel" ⟨"LevelScoresModel", "zero", "()V"⟩ ⟨"LevelScoresModel", "zero", "()V"⟩) ∈ lw_all := lw_g (lw_at lw_ms 33 rfl) rfl
theorem qs34 : (Cond.selects "LevelScoresModel" ⟨"LevelScoresModel", "add", "(JJ)V"⟩ ⟨"LevelScoresModel", "add", "(JJ)V"⟩) ∈ lw_all := lw_g (lw_at lw_ms 34 rfl) rfl
theorem qs35 : (Cond.selects "LevelScoresModel" ⟨"LevelScoresModel", "fits", "()Z"⟩ ⟨"LevelScoresModel", "fits", "()Z"⟩) ∈ lw_all := lw_g (lw_at lw_ms 35 rfl) rfl
theorem qs36 : (Cond.selects "LevelScoresModel" ⟨"LevelScoresModel", "number", "()J"⟩ ⟨"LevelScoresModel", "number", "()J"⟩) ∈ lw_all := lw_g (lw_at lw_ms 36 rfl) rfl
theorem qs37 : (Cond.selects "LevelScoresModel" ⟨"LevelScoresModel", "here", "()I"⟩ ⟨"LevelScoresModel", "here", "()I"⟩) ∈ lw_all := lw_g (lw_at lw_ms 37 rfl) rfl
theorem qs38 : (Cond.selects "LevelScoresModel" ⟨"LevelScoresModel", "bent", "()V"⟩ ⟨"LevelScoresModel", "bent", "()V"⟩) ∈ lw_all := lw_g (lw_at lw_ms 38 rfl) rfl
theorem qs39 : (Cond.selects "LevelScoresModel" ⟨"LevelScoresModel", "take", "(I)V"⟩ ⟨"LevelScoresModel", "take", "(I)V"⟩) ∈ lw_all := lw_g (lw_at lw_ms 39 rfl) rfl
theorem qs40 : (Cond.selects "LevelScoresModel" ⟨"LevelScoresModel", "row", "(I)I"⟩ ⟨"LevelScoresModel", "row", "(I)I"⟩) ∈ lw_all := lw_g (lw_at lw_ms 40 rfl) rfl
theorem qs41 : (Cond.selects "LevelScoresModel" ⟨"LevelScoresModel", "figure", "()V"⟩ ⟨"LevelScoresModel", "figure", "()V"⟩) ∈ lw_all := lw_g (lw_at lw_ms 41 rfl) rfl
theorem qs42 : (Cond.selects "LevelScoresModel" ⟨"LevelScoresModel", "isFigure", "()Z"⟩ ⟨"LevelScoresModel", "isFigure", "()Z"⟩) ∈ lw_all := lw_g (lw_at lw_ms 42 rfl) rfl
theorem qs43 : (Cond.selects "LevelScoresModel" ⟨"LevelScoresModel", "level", "(I)V"⟩ ⟨"LevelScoresModel", "level", "(I)V"⟩) ∈ lw_all := lw_g (lw_at lw_ms 43 rfl) rfl
theorem qs44 : (Cond.selects "LevelScoresModel" ⟨"LevelScoresModel", "word", "(I)V"⟩ ⟨"LevelScoresModel", "word", "(I)V"⟩) ∈ lw_all := lw_g (lw_at lw_ms 44 rfl) rfl
theorem qs45 : (Cond.selects "LevelScoresModel" ⟨"LevelScoresModel", "plain", "()V"⟩ ⟨"LevelScoresModel", "plain", "()V"⟩) ∈ lw_all := lw_g (lw_at lw_ms 45 rfl) rfl
theorem qs46 : (Cond.selects "LevelScoresModel" ⟨"LevelScoresModel", "writeRow", "(III)V"⟩ ⟨"LevelScoresModel", "writeRow", "(III)V"⟩) ∈ lw_all := lw_g (lw_at lw_ms 46 rfl) rfl
theorem qs47 : (Cond.selects "LevelScoresModel" ⟨"LevelScoresModel", "write", "(I)V"⟩ ⟨"LevelScoresModel", "write", "(I)V"⟩) ∈ lw_all := lw_g (lw_at lw_ms 47 rfl) rfl
theorem qs48 : (Cond.selects "LevelScoresModel" ⟨"LevelScoresModel", "writeNumber", "(J)V"⟩ ⟨"LevelScoresModel", "writeNumber", "(J)V"⟩) ∈ lw_all := lw_g (lw_at lw_ms 48 rfl) rfl
theorem qs49 : (Cond.selects "LevelScoresModel" ⟨"LevelScoresModel", "writeWord", "(I)V"⟩ ⟨"LevelScoresModel", "writeWord", "(I)V"⟩) ∈ lw_all := lw_g (lw_at lw_ms 49 rfl) rfl
theorem qs50 : (Cond.selects "LevelScoresModel" ⟨"LevelScoresModel", "isLikePlan", "(I)Z"⟩ ⟨"LevelScoresModel", "isLikePlan", "(I)Z"⟩) ∈ lw_all := lw_g (lw_at lw_ms 50 rfl) rfl
theorem qs51 : (Cond.selects "LevelScoresModel" ⟨"LevelScoresModel", "hasRoom", "()Z"⟩ ⟨"LevelScoresModel", "hasRoom", "()Z"⟩) ∈ lw_all := lw_g (lw_at lw_ms 51 rfl) rfl
theorem qs52 : (Cond.selects "LevelScoresModel" ⟨"LevelScoresModel", "layPart", "(II)V"⟩ ⟨"LevelScoresModel", "layPart", "(II)V"⟩) ∈ lw_all := lw_g (lw_at lw_ms 52 rfl) rfl
