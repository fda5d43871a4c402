/-! LevelScoresLaw -/
set_option maxRecDepth 100000
def RX0 : String := "LevelScoresLaw"
abbrev cX0_at : ByteArray := method_3_code
def yX0_at : MethodName := ⟨RX0, "at", "(LLevelScores;II[J)I"⟩
def dkwX0_at_0 : List UInt8 := [45, 3, 42, 27, 28, 182, 0, 7, 80, 167, 0, 11, 58, 4, 4, 172, 58, 4, 5, 172, 3, 172]
abbrev dktX0_at_0 : List UInt8 := dkwX0_at_0 ++ []
theorem dksX0_at_0 : cX0_at.data.toList.drop 0 = dktX0_at_0 := by decide +kernel
theorem dX0_at_0 : decode cX0_at 0 = .ok (.aload_n 3, 1) := dk_45 (dk_at dksX0_at_0 0 rfl rfl)
theorem dX0_at_1 : decode cX0_at 1 = .ok (.iconst 0, 1) := dk_3 (dk_at dksX0_at_0 1 rfl rfl)
theorem dX0_at_2 : decode cX0_at 2 = .ok (.aload_n 0, 1) := dk_42 (dk_at dksX0_at_0 2 rfl rfl)
theorem dX0_at_3 : decode cX0_at 3 = .ok (.iload_n 1, 1) := dk_27 (dk_at dksX0_at_0 3 rfl rfl)
theorem dX0_at_4 : decode cX0_at 4 = .ok (.iload_n 2, 1) := dk_28 (dk_at dksX0_at_0 4 rfl rfl)
theorem dX0_at_5 : decode cX0_at 5 = .ok (.invokevirtual 7, 3) := dk_182 0 7 (dk_at dksX0_at_0 5 rfl rfl)
theorem dX0_at_8 : decode cX0_at 8 = .ok (.lastore, 1) := dk_80 (dk_at dksX0_at_0 8 rfl rfl)
theorem dX0_at_9 : decode cX0_at 9 = .ok (.goto 11, 3) := dk_167 0 11 (dk_at dksX0_at_0 9 rfl rfl)
theorem dX0_at_12 : decode cX0_at 12 = .ok (.astore 4, 2) := dk_58 4 (dk_at dksX0_at_0 12 rfl rfl)
theorem dX0_at_14 : decode cX0_at 14 = .ok (.iconst 1, 1) := dk_4 (dk_at dksX0_at_0 14 rfl rfl)
theorem dX0_at_15 : decode cX0_at 15 = .ok (.ireturn, 1) := dk_172 (dk_at dksX0_at_0 15 rfl rfl)
theorem dX0_at_16 : decode cX0_at 16 = .ok (.astore 4, 2) := dk_58 4 (dk_at dksX0_at_0 16 rfl rfl)
theorem dX0_at_18 : decode cX0_at 18 = .ok (.iconst 2, 1) := dk_5 (dk_at dksX0_at_0 18 rfl rfl)
theorem dX0_at_19 : decode cX0_at 19 = .ok (.ireturn, 1) := dk_172 (dk_at dksX0_at_0 19 rfl rfl)
theorem dX0_at_20 : decode cX0_at 20 = .ok (.iconst 0, 1) := dk_3 (dk_at dksX0_at_0 20 rfl rfl)
theorem dX0_at_21 : decode cX0_at 21 = .ok (.ireturn, 1) := dk_172 (dk_at dksX0_at_0 21 rfl rfl)
theorem q53 : (Jvm.Cond.initialized "LevelScoresLaw") ∈ lw_all := lw_g (lw_at lw_m1 0 rfl) rfl
theorem q78 : (Jvm.Cond.classLink "LevelScoresLaw" (8 : Nat) "LevelScores") ∈ lw_all := lw_g (lw_at lw_m1 25 rfl) rfl
theorem q80 : (Jvm.Cond.methodLink "LevelScoresLaw" (17 : Nat) ({ cls := "LevelScores", name := "<init>", desc := "()V" } : Jvm.MethodName)) ∈ lw_all := lw_g (lw_at lw_m1 27 rfl) rfl
theorem q156 : (Jvm.Cond.methodLink "LevelScoresLaw" (21 : Nat) ({ cls := "LevelScores", name := "make", desc := "(III)I" } : Jvm.MethodName)) ∈ lw_all := lw_g (lw_at lw_m1 103 rfl) rfl
theorem q295 : (Jvm.Cond.methodLink "LevelScoresLaw" (26 : Nat) ({ cls := "LevelScores", name := "nothing", desc := "()I" } : Jvm.MethodName)) ∈ lw_all := lw_g (lw_at lw_m2 2 rfl) rfl
theorem q299 : (Jvm.Cond.methodLink "LevelScoresLaw" (33 : Nat) ({ cls := "LevelScores", name := "set", desc := "(IIJ)I" } : Jvm.MethodName)) ∈ lw_all := lw_g (lw_at lw_m2 6 rfl) rfl
theorem q351 : (Jvm.Cond.methodLink "LevelScoresLaw" (47 : Nat) ({ cls := "LevelScores", name := "told", desc := "(II)I" } : Jvm.MethodName)) ∈ lw_all := lw_g (lw_at lw_m2 58 rfl) rfl
theorem q446 : (Jvm.Cond.methodLink "LevelScoresLaw" (52 : Nat) ({ cls := "LevelScores", name := "act", desc := "(III)I" } : Jvm.MethodName)) ∈ lw_all := lw_g (lw_at lw_m2 153 rfl) rfl
theorem q565 : (Jvm.Cond.methodLink "LevelScoresLaw" (56 : Nat) ({ cls := "LevelScores", name := "times", desc := "(III)I" } : Jvm.MethodName)) ∈ lw_all := lw_g (lw_at lw_m3 32 rfl) rfl
theorem q610 : (Jvm.Cond.methodLink "LevelScoresLaw" (60 : Nat) ({ cls := "LevelScores", name := "order", desc := "(II)I" } : Jvm.MethodName)) ∈ lw_all := lw_g (lw_at lw_m3 77 rfl) rfl
theorem q614 : (Jvm.Cond.methodLink "LevelScoresLaw" (64 : Nat) ({ cls := "LevelScores", name := "put", desc := "(I)I" } : Jvm.MethodName)) ∈ lw_all := lw_g (lw_at lw_m3 81 rfl) rfl
theorem q618 : (Jvm.Cond.methodLink "LevelScoresLaw" (69 : Nat) ({ cls := "LevelScores", name := "read", desc := "()I" } : Jvm.MethodName)) ∈ lw_all := lw_g (lw_at lw_m3 85 rfl) rfl
theorem q711 : (Jvm.Cond.methodLink "LevelScoresLaw" (73 : Nat) ({ cls := "LevelScores", name := "print", desc := "(I)I" } : Jvm.MethodName)) ∈ lw_all := lw_g (lw_at lw_m3 178 rfl) rfl
theorem q739 : (Jvm.Cond.methodLink "LevelScoresLaw" (77 : Nat) ({ cls := "LevelScores", name := "out", desc := "(I)I" } : Jvm.MethodName)) ∈ lw_all := lw_g (lw_at lw_m3 206 rfl) rfl
theorem q743 : (Jvm.Cond.methodLink "LevelScoresLaw" (81 : Nat) ({ cls := "LevelScores", name := "plan", desc := "(I)I" } : Jvm.MethodName)) ∈ lw_all := lw_g (lw_at lw_m3 210 rfl) rfl
theorem q747 : (Jvm.Cond.methodLink "LevelScoresLaw" (85 : Nat) ({ cls := "LevelScores", name := "rule", desc := "(I)I" } : Jvm.MethodName)) ∈ lw_all := lw_g (lw_at lw_m3 214 rfl) rfl
theorem q751 : (Jvm.Cond.methodLink "LevelScoresLaw" (89 : Nat) ({ cls := "LevelScores", name := "count", desc := "(II)I" } : Jvm.MethodName)) ∈ lw_all := lw_g (lw_at lw_m3 218 rfl) rfl
theorem q768 : (Jvm.Cond.methodLink "LevelScoresLaw" (93 : Nat) ({ cls := "LevelScores", name := "weight", desc := "(II)I" } : Jvm.MethodName)) ∈ lw_all := lw_g (lw_at lw_m3 235 rfl) rfl
theorem q772 : (Jvm.Cond.methodLink "LevelScoresLaw" (97 : Nat) ({ cls := "LevelScores", name := "total", desc := "(I)I" } : Jvm.MethodName)) ∈ lw_all := lw_g (lw_at lw_m3 239 rfl) rfl
theorem q776 : (Jvm.Cond.methodLink "LevelScoresLaw" (101 : Nat) ({ cls := "LevelScores", name := "safe", desc := "(I)I" } : Jvm.MethodName)) ∈ lw_all := lw_g (lw_at lw_m4 3 rfl) rfl
theorem q780 : (Jvm.Cond.methodLink "LevelScoresLaw" (105 : Nat) ({ cls := "LevelScores", name := "keep", desc := "(I)I" } : Jvm.MethodName)) ∈ lw_all := lw_g (lw_at lw_m4 7 rfl) rfl
theorem q784 : (Jvm.Cond.methodLink "LevelScoresLaw" (109 : Nat) ({ cls := "LevelScores", name := "kept", desc := "(I)I" } : Jvm.MethodName)) ∈ lw_all := lw_g (lw_at lw_m4 11 rfl) rfl
theorem q788 : (Jvm.Cond.methodLink "LevelScoresLaw" (113 : Nat) ({ cls := "LevelScores", name := "many", desc := "(I)I" } : Jvm.MethodName)) ∈ lw_all := lw_g (lw_at lw_m4 15 rfl) rfl
theorem q792 : (Jvm.Cond.methodLink "LevelScoresLaw" (117 : Nat) ({ cls := "LevelScores", name := "drop", desc := "()I" } : Jvm.MethodName)) ∈ lw_all := lw_g (lw_at lw_m4 19 rfl) rfl
theorem q796 : (Jvm.Cond.methodLink "LevelScoresLaw" (38 : Nat) ({ cls := "LevelScoresLaw", name := "at", desc := "(LLevelScores;II[J)I" } : Jvm.MethodName)) ∈ lw_all := lw_g (lw_at lw_m4 23 rfl) rfl
theorem q797 : (Jvm.Cond.static ({ cls := "LevelScoresLaw", name := "at", desc := "(LLevelScores;II[J)I" } : Jvm.MethodName)) ∈ lw_all := lw_g (lw_at lw_m4 24 rfl) rfl
theorem q798 : (Jvm.Cond.codeWith ({ cls := "LevelScoresLaw", name := "at", desc := "(LLevelScores;II[J)I" } : Jvm.MethodName) method_3_code (5 : Nat) (Option.some Jvm.ClassFile.FieldType.int) [((0 : Nat), (9 : Nat), (12 : Nat), (13 : Nat)), ((0 : Nat), (9 : Nat), (16 : Nat), (15 : Nat))]) ∈ lw_all := lw_g (lw_at lw_m4 25 rfl) rfl
theorem q799 : (Jvm.Cond.classLink "LevelScoresLaw" (13 : Nat) "java/lang/IndexOutOfBoundsException") ∈ lw_all := lw_g (lw_at lw_m4 26 rfl) rfl
theorem q800 : (Jvm.Cond.classLink "LevelScoresLaw" (15 : Nat) "java/util/NoSuchElementException") ∈ lw_all := lw_g (lw_at lw_m4 27 rfl) rfl
theorem q801 : (Jvm.Cond.methodLink "LevelScoresLaw" (7 : Nat) ({ cls := "LevelScores", name := "at", desc := "(II)J" } : Jvm.MethodName)) ∈ lw_all := lw_g (lw_at lw_m4 28 rfl) rfl
theorem q835 : (Jvm.Cond.classLink "LevelScoresLaw" (18 : Nat) "LevelScoresModel") ∈ lw_all := lw_g (lw_at lw_m4 62 rfl) rfl
theorem q837 : (Jvm.Cond.methodLink "LevelScoresLaw" (20 : Nat) ({ cls := "LevelScoresModel", name := "<init>", desc := "()V" } : Jvm.MethodName)) ∈ lw_all := lw_g (lw_at lw_m4 64 rfl) rfl
theorem q914 : (Jvm.Cond.methodLink "LevelScoresLaw" (25 : Nat) ({ cls := "LevelScoresModel", name := "make", desc := "(III)I" } : Jvm.MethodName)) ∈ lw_all := lw_g (lw_at lw_m4 141 rfl) rfl
theorem q930 : (Jvm.Cond.methodLink "LevelScoresLaw" (30 : Nat) ({ cls := "LevelScoresModel", name := "nothing", desc := "()I" } : Jvm.MethodName)) ∈ lw_all := lw_g (lw_at lw_m4 157 rfl) rfl
theorem q934 : (Jvm.Cond.methodLink "LevelScoresLaw" (37 : Nat) ({ cls := "LevelScoresModel", name := "set", desc := "(IIJ)I" } : Jvm.MethodName)) ∈ lw_all := lw_g (lw_at lw_m4 161 rfl) rfl
theorem q946 : (Jvm.Cond.methodLink "LevelScoresLaw" (44 : Nat) ({ cls := "LevelScoresModel", name := "thrown", desc := "()I" } : Jvm.MethodName)) ∈ lw_all := lw_g (lw_at lw_m4 173 rfl) rfl
theorem q950 : (Jvm.Cond.methodLink "LevelScoresLaw" (43 : Nat) ({ cls := "LevelScoresModel", name := "at", desc := "(II)J" } : Jvm.MethodName)) ∈ lw_all := lw_g (lw_at lw_m4 177 rfl) rfl
theorem q954 : (Jvm.Cond.methodLink "LevelScoresLaw" (51 : Nat) ({ cls := "LevelScoresModel", name := "told", desc := "(II)I" } : Jvm.MethodName)) ∈ lw_all := lw_g (lw_at lw_m4 181 rfl) rfl
theorem q958 : (Jvm.Cond.methodLink "LevelScoresLaw" (55 : Nat) ({ cls := "LevelScoresModel", name := "act", desc := "(III)I" } : Jvm.MethodName)) ∈ lw_all := lw_g (lw_at lw_m4 185 rfl) rfl
theorem q995 : (Jvm.Cond.methodLink "LevelScoresLaw" (59 : Nat) ({ cls := "LevelScoresModel", name := "times", desc := "(III)I" } : Jvm.MethodName)) ∈ lw_all := lw_g (lw_at lw_m4 222 rfl) rfl
theorem q999 : (Jvm.Cond.methodLink "LevelScoresLaw" (63 : Nat) ({ cls := "LevelScoresModel", name := "order", desc := "(II)I" } : Jvm.MethodName)) ∈ lw_all := lw_g (lw_at lw_m4 226 rfl) rfl
theorem q1003 : (Jvm.Cond.methodLink "LevelScoresLaw" (68 : Nat) ({ cls := "LevelScoresModel", name := "put", desc := "(I)I" } : Jvm.MethodName)) ∈ lw_all := lw_g (lw_at lw_m4 230 rfl) rfl
theorem q1008 : (Jvm.Cond.methodLink "LevelScoresLaw" (72 : Nat) ({ cls := "LevelScoresModel", name := "read", desc := "()I" } : Jvm.MethodName)) ∈ lw_all := lw_g (lw_at lw_m4 235 rfl) rfl
theorem q1055 : (Jvm.Cond.methodLink "LevelScoresLaw" (76 : Nat) ({ cls := "LevelScoresModel", name := "print", desc := "(I)I" } : Jvm.MethodName)) ∈ lw_all := lw_g (lw_at lw_m5 42 rfl) rfl
theorem q1077 : (Jvm.Cond.methodLink "LevelScoresLaw" (80 : Nat) ({ cls := "LevelScoresModel", name := "out", desc := "(I)I" } : Jvm.MethodName)) ∈ lw_all := lw_g (lw_at lw_m5 64 rfl) rfl
theorem q1081 : (Jvm.Cond.methodLink "LevelScoresLaw" (84 : Nat) ({ cls := "LevelScoresModel", name := "plan", desc := "(I)I" } : Jvm.MethodName)) ∈ lw_all := lw_g (lw_at lw_m5 68 rfl) rfl
theorem q1085 : (Jvm.Cond.methodLink "LevelScoresLaw" (88 : Nat) ({ cls := "LevelScoresModel", name := "rule", desc := "(I)I" } : Jvm.MethodName)) ∈ lw_all := lw_g (lw_at lw_m5 72 rfl) rfl
theorem q1093 : (Jvm.Cond.methodLink "LevelScoresLaw" (92 : Nat) ({ cls := "LevelScoresModel", name := "count", desc := "(II)I" } : Jvm.MethodName)) ∈ lw_all := lw_g (lw_at lw_m5 80 rfl) rfl
theorem q1106 : (Jvm.Cond.methodLink "LevelScoresLaw" (96 : Nat) ({ cls := "LevelScoresModel", name := "weight", desc := "(II)I" } : Jvm.MethodName)) ∈ lw_all := lw_g (lw_at lw_m5 93 rfl) rfl
theorem q1110 : (Jvm.Cond.methodLink "LevelScoresLaw" (100 : Nat) ({ cls := "LevelScoresModel", name := "total", desc := "(I)I" } : Jvm.MethodName)) ∈ lw_all := lw_g (lw_at lw_m5 97 rfl) rfl
theorem q1114 : (Jvm.Cond.methodLink "LevelScoresLaw" (104 : Nat) ({ cls := "LevelScoresModel", name := "safe", desc := "(I)I" } : Jvm.MethodName)) ∈ lw_all := lw_g (lw_at lw_m5 101 rfl) rfl
theorem q1118 : (Jvm.Cond.methodLink "LevelScoresLaw" (108 : Nat) ({ cls := "LevelScoresModel", name := "keep", desc := "(I)I" } : Jvm.MethodName)) ∈ lw_all := lw_g (lw_at lw_m5 105 rfl) rfl
theorem q1122 : (Jvm.Cond.methodLink "LevelScoresLaw" (112 : Nat) ({ cls := "LevelScoresModel", name := "kept", desc := "(I)I" } : Jvm.MethodName)) ∈ lw_all := lw_g (lw_at lw_m5 109 rfl) rfl
theorem q1126 : (Jvm.Cond.methodLink "LevelScoresLaw" (116 : Nat) ({ cls := "LevelScoresModel", name := "many", desc := "(I)I" } : Jvm.MethodName)) ∈ lw_all := lw_g (lw_at lw_m5 113 rfl) rfl
theorem q1130 : (Jvm.Cond.methodLink "LevelScoresLaw" (120 : Nat) ({ cls := "LevelScoresModel", name := "drop", desc := "()I" } : Jvm.MethodName)) ∈ lw_all := lw_g (lw_at lw_m5 117 rfl) rfl
theorem q1134 : (Jvm.Cond.constantLong "LevelScoresLaw" (31 : Nat) (4294967295 : Int64)) ∈ lw_all := lw_g (lw_at lw_m5 121 rfl) rfl

/-! LevelScores$Score -/
set_option maxRecDepth 100000
def RX2 : String := "LevelScores$Score"
abbrev cX2_init : ByteArray := prog_3_method_1_code
def yX2_init : MethodName := ⟨RX2, "<init>", "(I)V"⟩
def dkwX2_init_0 : List UInt8 := [42, 183, 0, 3, 42, 27, 188, 11, 181, 0, 9, 177]
abbrev dktX2_init_0 : List UInt8 := dkwX2_init_0 ++ []
theorem dksX2_init_0 : cX2_init.data.toList.drop 0 = dktX2_init_0 := by decide +kernel
theorem dX2_init_0 : decode cX2_init 0 = .ok (.aload_n 0, 1) := dk_42 (dk_at dksX2_init_0 0 rfl rfl)
theorem dX2_init_1 : decode cX2_init 1 = .ok (.invokespecial 3, 3) := dk_183 0 3 (dk_at dksX2_init_0 1 rfl rfl)
theorem dX2_init_4 : decode cX2_init 4 = .ok (.aload_n 0, 1) := dk_42 (dk_at dksX2_init_0 4 rfl rfl)
theorem dX2_init_5 : decode cX2_init 5 = .ok (.iload_n 1, 1) := dk_27 (dk_at dksX2_init_0 5 rfl rfl)
theorem dX2_init_6 : decode cX2_init 6 = .ok (.newarray .long, 2) := dk_188_11 (dk_at dksX2_init_0 6 rfl rfl)
theorem dX2_init_8 : decode cX2_init 8 = .ok (.putfield 9, 3) := dk_181 0 9 (dk_at dksX2_init_0 8 rfl rfl)
theorem dX2_init_11 : decode cX2_init 11 = .ok (.return_, 1) := dk_177 (dk_at dksX2_init_0 11 rfl rfl)
abbrev cX2_isLess : ByteArray := prog_3_method_7_code
def yX2_isLess : MethodName := ⟨RX2, "isLess", "(LLevelScores$Score;)Z"⟩
def dkwX2_isLess_1 : List UInt8 := [156, 0, 7, 4, 167, 0, 4, 3, 172]
abbrev dktX2_isLess_1 : List UInt8 := dkwX2_isLess_1 ++ []
def dkwX2_isLess_0 : List UInt8 := [42, 43, 182, 0, 25, 61, 28, 2, 159, 0, 23, 42, 180, 0, 9, 28, 47, 43, 180, 0, 9, 28, 47, 148]
abbrev dktX2_isLess_0 : List UInt8 := dkwX2_isLess_0 ++ dktX2_isLess_1
theorem dksX2_isLess_0 : cX2_isLess.data.toList.drop 0 = dktX2_isLess_0 := by decide +kernel
theorem dksX2_isLess_1 : cX2_isLess.data.toList.drop 24 = dktX2_isLess_1 := dk_seg dksX2_isLess_0 24 rfl rfl
theorem dX2_isLess_0 : decode cX2_isLess 0 = .ok (.aload_n 0, 1) := dk_42 (dk_at dksX2_isLess_0 0 rfl rfl)
theorem dX2_isLess_1 : decode cX2_isLess 1 = .ok (.aload_n 1, 1) := dk_43 (dk_at dksX2_isLess_0 1 rfl rfl)
theorem dX2_isLess_2 : decode cX2_isLess 2 = .ok (.invokevirtual 25, 3) := dk_182 0 25 (dk_at dksX2_isLess_0 2 rfl rfl)
theorem dX2_isLess_5 : decode cX2_isLess 5 = .ok (.istore_n 2, 1) := dk_61 (dk_at dksX2_isLess_0 5 rfl rfl)
theorem dX2_isLess_6 : decode cX2_isLess 6 = .ok (.iload_n 2, 1) := dk_28 (dk_at dksX2_isLess_0 6 rfl rfl)
theorem dX2_isLess_7 : decode cX2_isLess 7 = .ok (.iconst (-1), 1) := dk_2 (dk_at dksX2_isLess_0 7 rfl rfl)
theorem dX2_isLess_8 : decode cX2_isLess 8 = .ok (.if_icmp .eq 23, 3) := dk_159 0 23 (dk_at dksX2_isLess_0 8 rfl rfl)
theorem dX2_isLess_11 : decode cX2_isLess 11 = .ok (.aload_n 0, 1) := dk_42 (dk_at dksX2_isLess_0 11 rfl rfl)
theorem dX2_isLess_12 : decode cX2_isLess 12 = .ok (.getfield 9, 3) := dk_180 0 9 (dk_at dksX2_isLess_0 12 rfl rfl)
theorem dX2_isLess_15 : decode cX2_isLess 15 = .ok (.iload_n 2, 1) := dk_28 (dk_at dksX2_isLess_0 15 rfl rfl)
theorem dX2_isLess_16 : decode cX2_isLess 16 = .ok (.laload, 1) := dk_47 (dk_at dksX2_isLess_0 16 rfl rfl)
theorem dX2_isLess_17 : decode cX2_isLess 17 = .ok (.aload_n 1, 1) := dk_43 (dk_at dksX2_isLess_0 17 rfl rfl)
theorem dX2_isLess_18 : decode cX2_isLess 18 = .ok (.getfield 9, 3) := dk_180 0 9 (dk_at dksX2_isLess_0 18 rfl rfl)
theorem dX2_isLess_21 : decode cX2_isLess 21 = .ok (.iload_n 2, 1) := dk_28 (dk_at dksX2_isLess_0 21 rfl rfl)
theorem dX2_isLess_22 : decode cX2_isLess 22 = .ok (.laload, 1) := dk_47 (dk_at dksX2_isLess_0 22 rfl rfl)
theorem dX2_isLess_23 : decode cX2_isLess 23 = .ok (.lcmp, 1) := dk_148 (dk_at dksX2_isLess_0 23 rfl rfl)
theorem dX2_isLess_24 : decode cX2_isLess 24 = .ok (.ifCond .ge 7, 3) := dk_156 0 7 (dk_at dksX2_isLess_1 0 rfl rfl)
theorem dX2_isLess_27 : decode cX2_isLess 27 = .ok (.iconst 1, 1) := dk_4 (dk_at dksX2_isLess_1 3 rfl rfl)
theorem dX2_isLess_28 : decode cX2_isLess 28 = .ok (.goto 4, 3) := dk_167 0 4 (dk_at dksX2_isLess_1 4 rfl rfl)
theorem dX2_isLess_31 : decode cX2_isLess 31 = .ok (.iconst 0, 1) := dk_3 (dk_at dksX2_isLess_1 7 rfl rfl)
theorem dX2_isLess_32 : decode cX2_isLess 32 = .ok (.ireturn, 1) := dk_172 (dk_at dksX2_isLess_1 8 rfl rfl)
abbrev cX2_differ : ByteArray := prog_3_method_6_code
def yX2_differ : MethodName := ⟨RX2, "differ", "(LLevelScores$Score;)I"⟩
def dkwX2_differ_1 : List UInt8 := [153, 0, 5, 28, 172, 132, 2, 1, 167, 255, 226, 2, 172]
abbrev dktX2_differ_1 : List UInt8 := dkwX2_differ_1 ++ []
def dkwX2_differ_0 : List UInt8 := [3, 61, 28, 42, 180, 0, 9, 190, 162, 0, 27, 42, 180, 0, 9, 28, 47, 43, 180, 0, 9, 28, 47, 148]
abbrev dktX2_differ_0 : List UInt8 := dkwX2_differ_0 ++ dktX2_differ_1
theorem dksX2_differ_0 : cX2_differ.data.toList.drop 0 = dktX2_differ_0 := by decide +kernel
theorem dksX2_differ_1 : cX2_differ.data.toList.drop 24 = dktX2_differ_1 := dk_seg dksX2_differ_0 24 rfl rfl
theorem dX2_differ_0 : decode cX2_differ 0 = .ok (.iconst 0, 1) := dk_3 (dk_at dksX2_differ_0 0 rfl rfl)
theorem dX2_differ_1 : decode cX2_differ 1 = .ok (.istore_n 2, 1) := dk_61 (dk_at dksX2_differ_0 1 rfl rfl)
theorem dX2_differ_2 : decode cX2_differ 2 = .ok (.iload_n 2, 1) := dk_28 (dk_at dksX2_differ_0 2 rfl rfl)
theorem dX2_differ_3 : decode cX2_differ 3 = .ok (.aload_n 0, 1) := dk_42 (dk_at dksX2_differ_0 3 rfl rfl)
theorem dX2_differ_4 : decode cX2_differ 4 = .ok (.getfield 9, 3) := dk_180 0 9 (dk_at dksX2_differ_0 4 rfl rfl)
theorem dX2_differ_7 : decode cX2_differ 7 = .ok (.arraylength, 1) := dk_190 (dk_at dksX2_differ_0 7 rfl rfl)
theorem dX2_differ_8 : decode cX2_differ 8 = .ok (.if_icmp .ge 27, 3) := dk_162 0 27 (dk_at dksX2_differ_0 8 rfl rfl)
theorem dX2_differ_11 : decode cX2_differ 11 = .ok (.aload_n 0, 1) := dk_42 (dk_at dksX2_differ_0 11 rfl rfl)
theorem dX2_differ_12 : decode cX2_differ 12 = .ok (.getfield 9, 3) := dk_180 0 9 (dk_at dksX2_differ_0 12 rfl rfl)
theorem dX2_differ_15 : decode cX2_differ 15 = .ok (.iload_n 2, 1) := dk_28 (dk_at dksX2_differ_0 15 rfl rfl)
theorem dX2_differ_16 : decode cX2_differ 16 = .ok (.laload, 1) := dk_47 (dk_at dksX2_differ_0 16 rfl rfl)
theorem dX2_differ_17 : decode cX2_differ 17 = .ok (.aload_n 1, 1) := dk_43 (dk_at dksX2_differ_0 17 rfl rfl)
theorem dX2_differ_18 : decode cX2_differ 18 = .ok (.getfield 9, 3) := dk_180 0 9 (dk_at dksX2_differ_0 18 rfl rfl)
theorem dX2_differ_21 : decode cX2_differ 21 = .ok (.iload_n 2, 1) := dk_28 (dk_at dksX2_differ_0 21 rfl rfl)
theorem dX2_differ_22 : decode cX2_differ 22 = .ok (.laload, 1) := dk_47 (dk_at dksX2_differ_0 22 rfl rfl)
theorem dX2_differ_23 : decode cX2_differ 23 = .ok (.lcmp, 1) := dk_148 (dk_at dksX2_differ_0 23 rfl rfl)
theorem dX2_differ_24 : decode cX2_differ 24 = .ok (.ifCond .eq 5, 3) := dk_153 0 5 (dk_at dksX2_differ_1 0 rfl rfl)
theorem dX2_differ_27 : decode cX2_differ 27 = .ok (.iload_n 2, 1) := dk_28 (dk_at dksX2_differ_1 3 rfl rfl)
theorem dX2_differ_28 : decode cX2_differ 28 = .ok (.ireturn, 1) := dk_172 (dk_at dksX2_differ_1 4 rfl rfl)
theorem dX2_differ_29 : decode cX2_differ 29 = .ok (.iinc 2 1, 3) := dk_132 2 1 (dk_at dksX2_differ_1 5 rfl rfl)
theorem dX2_differ_32 : decode cX2_differ 32 = .ok (.goto (-30), 3) := dk_167 255 226 (dk_at dksX2_differ_1 8 rfl rfl)
theorem dX2_differ_35 : decode cX2_differ 35 = .ok (.iconst (-1), 1) := dk_2 (dk_at dksX2_differ_1 11 rfl rfl)
theorem dX2_differ_36 : decode cX2_differ 36 = .ok (.ireturn, 1) := dk_172 (dk_at dksX2_differ_1 12 rfl rfl)
abbrev cX2_copy : ByteArray := prog_3_method_5_code
def yX2_copy : MethodName := ⟨RX2, "copy", "()LLevelScores$Score;"⟩
def dkwX2_copy_1 : List UInt8 := [176]
abbrev dktX2_copy_1 : List UInt8 := dkwX2_copy_1 ++ []
def dkwX2_copy_0 : List UInt8 := [42, 182, 0, 15, 76, 42, 180, 0, 9, 3, 43, 180, 0, 9, 3, 42, 180, 0, 9, 190, 184, 0, 19, 43]
abbrev dktX2_copy_0 : List UInt8 := dkwX2_copy_0 ++ dktX2_copy_1
theorem dksX2_copy_0 : cX2_copy.data.toList.drop 0 = dktX2_copy_0 := by decide +kernel
theorem dksX2_copy_1 : cX2_copy.data.toList.drop 24 = dktX2_copy_1 := dk_seg dksX2_copy_0 24 rfl rfl
theorem dX2_copy_0 : decode cX2_copy 0 = .ok (.aload_n 0, 1) := dk_42 (dk_at dksX2_copy_0 0 rfl rfl)
theorem dX2_copy_1 : decode cX2_copy 1 = .ok (.invokevirtual 15, 3) := dk_182 0 15 (dk_at dksX2_copy_0 1 rfl rfl)
theorem dX2_copy_4 : decode cX2_copy 4 = .ok (.astore_n 1, 1) := dk_76 (dk_at dksX2_copy_0 4 rfl rfl)
theorem dX2_copy_5 : decode cX2_copy 5 = .ok (.aload_n 0, 1) := dk_42 (dk_at dksX2_copy_0 5 rfl rfl)
theorem dX2_copy_6 : decode cX2_copy 6 = .ok (.getfield 9, 3) := dk_180 0 9 (dk_at dksX2_copy_0 6 rfl rfl)
theorem dX2_copy_9 : decode cX2_copy 9 = .ok (.iconst 0, 1) := dk_3 (dk_at dksX2_copy_0 9 rfl rfl)
theorem dX2_copy_10 : decode cX2_copy 10 = .ok (.aload_n 1, 1) := dk_43 (dk_at dksX2_copy_0 10 rfl rfl)
theorem dX2_copy_11 : decode cX2_copy 11 = .ok (.getfield 9, 3) := dk_180 0 9 (dk_at dksX2_copy_0 11 rfl rfl)
theorem dX2_copy_14 : decode cX2_copy 14 = .ok (.iconst 0, 1) := dk_3 (dk_at dksX2_copy_0 14 rfl rfl)
theorem dX2_copy_15 : decode cX2_copy 15 = .ok (.aload_n 0, 1) := dk_42 (dk_at dksX2_copy_0 15 rfl rfl)
theorem dX2_copy_16 : decode cX2_copy 16 = .ok (.getfield 9, 3) := dk_180 0 9 (dk_at dksX2_copy_0 16 rfl rfl)
theorem dX2_copy_19 : decode cX2_copy 19 = .ok (.arraylength, 1) := dk_190 (dk_at dksX2_copy_0 19 rfl rfl)
theorem dX2_copy_20 : decode cX2_copy 20 = .ok (.invokestatic 19, 3) := dk_184 0 19 (dk_at dksX2_copy_0 20 rfl rfl)
theorem dX2_copy_23 : decode cX2_copy 23 = .ok (.aload_n 1, 1) := dk_43 (dk_at dksX2_copy_0 23 rfl rfl)
theorem dX2_copy_24 : decode cX2_copy 24 = .ok (.areturn, 1) := dk_176 (dk_at dksX2_copy_1 0 rfl rfl)
theorem q55 : (Jvm.Cond.initialized "LevelScores$Score") ∈ lw_all := lw_g (lw_at lw_m1 2 rfl) rfl
theorem q94 : (Jvm.Cond.instanceMethod ({ cls := "LevelScores$Score", name := "<init>", desc := "(I)V" } : Jvm.MethodName)) ∈ lw_all := lw_g (lw_at lw_m1 41 rfl) rfl
theorem q95 : (Jvm.Cond.code ({ cls := "LevelScores$Score", name := "<init>", desc := "(I)V" } : Jvm.MethodName) prog_3_method_1_code (2 : Nat) (Option.none : Option Jvm.ClassFile.FieldType)) ∈ lw_all := lw_g (lw_at lw_m1 42 rfl) rfl
theorem q96 : (Jvm.Cond.methodLink "LevelScores$Score" (3 : Nat) ({ cls := "java/lang/Object", name := "<init>", desc := "()V" } : Jvm.MethodName)) ∈ lw_all := lw_g (lw_at lw_m1 43 rfl) rfl
theorem q97 : (Jvm.Cond.fieldLink "LevelScores$Score" (9 : Nat) "LevelScores$Score" "level" "[J") ∈ lw_all := lw_g (lw_at lw_m1 44 rfl) rfl
theorem q100 : (Jvm.Cond.soleField "LevelScores$Score" "level") ∈ lw_all := lw_g (lw_at lw_m1 47 rfl) rfl
theorem q356 : (Jvm.Cond.declares ({ cls := "LevelScores$Score", name := "shape", desc := "()I" } : Jvm.MethodName)) ∈ lw_tbl := lw_at lw_m2 63 rfl
theorem q357 : (Jvm.Cond.sameMethod "LevelScores$Score" "LevelScores$Score" "shape" "()I") ∈ lw_all := lw_g (lw_at lw_m2 64 rfl) rfl
theorem q472 : (Jvm.Cond.declares ({ cls := "LevelScores$Score", name := "match", desc := "(LLevelScores$Score;)V" } : Jvm.MethodName)) ∈ lw_tbl := lw_at lw_m2 179 rfl
theorem q473 : (Jvm.Cond.sameMethod "LevelScores$Score" "LevelScores$Score" "match" "(LLevelScores$Score;)V") ∈ lw_all := lw_g (lw_at lw_m2 180 rfl) rfl
theorem q496 : (Jvm.Cond.instanceMethod ({ cls := "LevelScores$Score", name := "isLess", desc := "(LLevelScores$Score;)Z" } : Jvm.MethodName)) ∈ lw_all := lw_g (lw_at lw_m2 203 rfl) rfl
theorem q497 : (Jvm.Cond.sameMethod "LevelScores$Score" "LevelScores$Score" "isLess" "(LLevelScores$Score;)Z") ∈ lw_all := lw_g (lw_at lw_m2 204 rfl) rfl
theorem q502 : (Jvm.Cond.code ({ cls := "LevelScores$Score", name := "isLess", desc := "(LLevelScores$Score;)Z" } : Jvm.MethodName) prog_3_method_7_code (3 : Nat) (Option.some Jvm.ClassFile.FieldType.boolean)) ∈ lw_all := lw_g (lw_at lw_m2 209 rfl) rfl
theorem q503 : (Jvm.Cond.methodLink "LevelScores$Score" (25 : Nat) ({ cls := "LevelScores$Score", name := "differ", desc := "(LLevelScores$Score;)I" } : Jvm.MethodName)) ∈ lw_all := lw_g (lw_at lw_m2 210 rfl) rfl
theorem q504 : (Jvm.Cond.instanceMethod ({ cls := "LevelScores$Score", name := "differ", desc := "(LLevelScores$Score;)I" } : Jvm.MethodName)) ∈ lw_all := lw_g (lw_at lw_m2 211 rfl) rfl
theorem q505 : (Jvm.Cond.sameMethod "LevelScores$Score" "LevelScores$Score" "differ" "(LLevelScores$Score;)I") ∈ lw_all := lw_g (lw_at lw_m2 212 rfl) rfl
theorem q510 : (Jvm.Cond.code ({ cls := "LevelScores$Score", name := "differ", desc := "(LLevelScores$Score;)I" } : Jvm.MethodName) prog_3_method_6_code (3 : Nat) (Option.some Jvm.ClassFile.FieldType.int)) ∈ lw_all := lw_g (lw_at lw_m2 217 rfl) rfl
theorem q512 : (Jvm.Cond.instanceMethod ({ cls := "LevelScores$Score", name := "copy", desc := "()LLevelScores$Score;" } : Jvm.MethodName)) ∈ lw_all := lw_g (lw_at lw_m2 219 rfl) rfl
theorem q513 : (Jvm.Cond.sameMethod "LevelScores$Score" "LevelScores$Score" "copy" "()LLevelScores$Score;") ∈ lw_all := lw_g (lw_at lw_m2 220 rfl) rfl
theorem q518 : (Jvm.Cond.code ({ cls := "LevelScores$Score", name := "copy", desc := "()LLevelScores$Score;" } : Jvm.MethodName) prog_3_method_5_code (2 : Nat) (Option.some (Jvm.ClassFile.FieldType.object "LevelScores$Score"))) ∈ lw_all := lw_g (lw_at lw_m2 225 rfl) rfl
theorem q519 : (Jvm.Cond.methodLink "LevelScores$Score" (15 : Nat) ({ cls := "LevelScores$Score", name := "fresh", desc := "()LLevelScores$Score;" } : Jvm.MethodName)) ∈ lw_all := lw_g (lw_at lw_m2 226 rfl) rfl
theorem q520 : (Jvm.Cond.declares ({ cls := "LevelScores$Score", name := "fresh", desc := "()LLevelScores$Score;" } : Jvm.MethodName)) ∈ lw_tbl := lw_at lw_m2 227 rfl
theorem q521 : (Jvm.Cond.sameMethod "LevelScores$Score" "LevelScores$Score" "fresh" "()LLevelScores$Score;") ∈ lw_all := lw_g (lw_at lw_m2 228 rfl) rfl
theorem q538 : (Jvm.Cond.methodLink "LevelScores$Score" (19 : Nat) ({ cls := "java/lang/System", name := "arraycopy", desc := "(Ljava/lang/Object;ILjava/lang/Object;II)V" } : Jvm.MethodName)) ∈ lw_all := lw_g (lw_at lw_m3 5 rfl) rfl
theorem q719 : (Jvm.Cond.superclass "LevelScores$Score" "java/lang/Object") ∈ lw_all := lw_g (lw_at lw_m3 186 rfl) rfl

/-! LevelScores$Simple -/
set_option maxRecDepth 100000
def RX3 : String := "LevelScores$Simple"
def TX3 : u_T := fun k => match k with
  | _ => ("LevelScores$Score", "level", "[J", true)
def tyX3 : Nat → FieldType := fun k => match k with
  | _ => .array .long
abbrev wsX30 : List Cond := u_ws RX3 TX3 1
theorem nmX3 : ∀ a, a < 1 → ∀ b, b < 1 → a ≠ b → (TX3 a).2.1 ≠ (TX3 b).2.1 := by decide +kernel
theorem tyX3_ok : ∀ k, k < 1 → parseFieldDescriptor (TX3 k).2.2.1 = some (tyX3 k) := by decide +kernel
abbrev cX3_init : ByteArray := prog_5_method_1_code
def yX3_init : MethodName := ⟨RX3, "<init>", "()V"⟩
def dkwX3_init_0 : List UInt8 := [42, 4, 183, 0, 1, 177]
abbrev dktX3_init_0 : List UInt8 := dkwX3_init_0 ++ []
theorem dksX3_init_0 : cX3_init.data.toList.drop 0 = dktX3_init_0 := by decide +kernel
theorem dX3_init_0 : decode cX3_init 0 = .ok (.aload_n 0, 1) := dk_42 (dk_at dksX3_init_0 0 rfl rfl)
theorem dX3_init_1 : decode cX3_init 1 = .ok (.iconst 1, 1) := dk_4 (dk_at dksX3_init_0 1 rfl rfl)
theorem dX3_init_2 : decode cX3_init 2 = .ok (.invokespecial 1, 3) := dk_183 0 1 (dk_at dksX3_init_0 2 rfl rfl)
theorem dX3_init_5 : decode cX3_init 5 = .ok (.return_, 1) := dk_177 (dk_at dksX3_init_0 5 rfl rfl)
abbrev cX3_init_2 : ByteArray := prog_5_method_2_code
def yX3_init_2 : MethodName := ⟨RX3, "<init>", "(I)V"⟩
def dkwX3_init_2_0 : List UInt8 := [42, 27, 183, 0, 1, 177]
abbrev dktX3_init_2_0 : List UInt8 := dkwX3_init_2_0 ++ []
theorem dksX3_init_2_0 : cX3_init_2.data.toList.drop 0 = dktX3_init_2_0 := by decide +kernel
theorem dX3_init_2_0 : decode cX3_init_2 0 = .ok (.aload_n 0, 1) := dk_42 (dk_at dksX3_init_2_0 0 rfl rfl)
theorem dX3_init_2_1 : decode cX3_init_2 1 = .ok (.iload_n 1, 1) := dk_27 (dk_at dksX3_init_2_0 1 rfl rfl)
theorem dX3_init_2_2 : decode cX3_init_2 2 = .ok (.invokespecial 1, 3) := dk_183 0 1 (dk_at dksX3_init_2_0 2 rfl rfl)
theorem dX3_init_2_5 : decode cX3_init_2 5 = .ok (.return_, 1) := dk_177 (dk_at dksX3_init_2_0 5 rfl rfl)
abbrev cX3_shape : ByteArray := prog_5_method_5_code
def yX3_shape : MethodName := ⟨RX3, "shape", "()I"⟩
theorem dX3_shape_0 : decode cX3_shape 0 = .ok (.iconst 0, 1) := by decide +kernel
theorem dX3_shape_1 : decode cX3_shape 1 = .ok (.ireturn, 1) := by decide +kernel
abbrev cX3_hard : ByteArray := prog_5_method_3_code
def yX3_hard : MethodName := ⟨RX3, "hard", "()I"⟩
theorem dX3_hard_0 : decode cX3_hard 0 = .ok (.iconst 0, 1) := by decide +kernel
theorem dX3_hard_1 : decode cX3_hard 1 = .ok (.ireturn, 1) := by decide +kernel
abbrev cX3_soft : ByteArray := prog_5_method_4_code
def yX3_soft : MethodName := ⟨RX3, "soft", "()I"⟩
theorem dX3_soft_0 : decode cX3_soft 0 = .ok (.iconst 1, 1) := by decide +kernel
theorem dX3_soft_1 : decode cX3_soft 1 = .ok (.ireturn, 1) := by decide +kernel
abbrev cX3_match : ByteArray := prog_5_method_7_code
def yX3_match : MethodName := ⟨RX3, "match", "(LLevelScores$Score;)V"⟩
def dkwX3_match_0 : List UInt8 := [43, 192, 0, 7, 77, 177]
abbrev dktX3_match_0 : List UInt8 := dkwX3_match_0 ++ []
theorem dksX3_match_0 : cX3_match.data.toList.drop 0 = dktX3_match_0 := by decide +kernel
theorem dX3_match_0 : decode cX3_match 0 = .ok (.aload_n 1, 1) := dk_43 (dk_at dksX3_match_0 0 rfl rfl)
theorem dX3_match_1 : decode cX3_match 1 = .ok (.checkcast 7, 3) := dk_192 0 7 (dk_at dksX3_match_0 1 rfl rfl)
theorem dX3_match_4 : decode cX3_match 4 = .ok (.astore_n 2, 1) := dk_77 (dk_at dksX3_match_0 4 rfl rfl)
theorem dX3_match_5 : decode cX3_match 5 = .ok (.return_, 1) := dk_177 (dk_at dksX3_match_0 5 rfl rfl)
abbrev cX3_fresh : ByteArray := prog_5_method_6_code
def yX3_fresh : MethodName := ⟨RX3, "fresh", "()LLevelScores$Score;"⟩
def dkwX3_fresh_0 : List UInt8 := [187, 0, 7, 89, 183, 0, 9, 176]
abbrev dktX3_fresh_0 : List UInt8 := dkwX3_fresh_0 ++ []
theorem dksX3_fresh_0 : cX3_fresh.data.toList.drop 0 = dktX3_fresh_0 := by decide +kernel
theorem dX3_fresh_0 : decode cX3_fresh 0 = .ok (.new 7, 3) := dk_187 0 7 (dk_at dksX3_fresh_0 0 rfl rfl)
theorem dX3_fresh_3 : decode cX3_fresh 3 = .ok (.dup, 1) := dk_89 (dk_at dksX3_fresh_0 3 rfl rfl)
theorem dX3_fresh_4 : decode cX3_fresh 4 = .ok (.invokespecial 9, 3) := dk_183 0 9 (dk_at dksX3_fresh_0 4 rfl rfl)
theorem dX3_fresh_7 : decode cX3_fresh 7 = .ok (.areturn, 1) := dk_176 (dk_at dksX3_fresh_0 7 rfl rfl)
theorem q56 : (Jvm.Cond.initialized "LevelScores$Simple") ∈ lw_all := lw_g (lw_at lw_m1 3 rfl) rfl
theorem q89 : (Jvm.Cond.instantiable "LevelScores$Simple" (1 : Nat)) ∈ lw_all := lw_g (lw_at lw_m1 36 rfl) rfl
theorem q91 : (Jvm.Cond.instanceMethod ({ cls := "LevelScores$Simple", name := "<init>", desc := "()V" } : Jvm.MethodName)) ∈ lw_all := lw_g (lw_at lw_m1 38 rfl) rfl
theorem q92 : (Jvm.Cond.code ({ cls := "LevelScores$Simple", name := "<init>", desc := "()V" } : Jvm.MethodName) prog_5_method_1_code (1 : Nat) (Option.none : Option Jvm.ClassFile.FieldType)) ∈ lw_all := lw_g (lw_at lw_m1 39 rfl) rfl
theorem q93 : (Jvm.Cond.methodLink "LevelScores$Simple" (1 : Nat) ({ cls := "LevelScores$Score", name := "<init>", desc := "(I)V" } : Jvm.MethodName)) ∈ lw_all := lw_g (lw_at lw_m1 40 rfl) rfl
theorem q99 : (Jvm.Cond.laysFinal "LevelScores$Simple" "LevelScores$Score" "level" "[J") ∈ lw_all := lw_g (lw_at lw_m1 46 rfl) rfl
theorem q101 : (Jvm.Cond.superclass "LevelScores$Simple" "LevelScores$Score") ∈ lw_all := lw_g (lw_at lw_m1 48 rfl) rfl
theorem q260 : (Jvm.Cond.instanceMethod ({ cls := "LevelScores$Simple", name := "<init>", desc := "(I)V" } : Jvm.MethodName)) ∈ lw_all := lw_g (lw_at lw_m1 207 rfl) rfl
theorem q261 : (Jvm.Cond.code ({ cls := "LevelScores$Simple", name := "<init>", desc := "(I)V" } : Jvm.MethodName) prog_5_method_2_code (2 : Nat) (Option.none : Option Jvm.ClassFile.FieldType)) ∈ lw_all := lw_g (lw_at lw_m1 208 rfl) rfl
theorem q361 : (Jvm.Cond.selects "LevelScores$Simple" ({ cls := "LevelScores$Score", name := "shape", desc := "()I" } : Jvm.MethodName) ({ cls := "LevelScores$Simple", name := "shape", desc := "()I" } : Jvm.MethodName)) ∈ lw_all := lw_g (lw_at lw_m2 68 rfl) rfl
theorem q362 : (Jvm.Cond.instanceMethod ({ cls := "LevelScores$Simple", name := "shape", desc := "()I" } : Jvm.MethodName)) ∈ lw_all := lw_g (lw_at lw_m2 69 rfl) rfl
theorem q363 : (Jvm.Cond.code ({ cls := "LevelScores$Simple", name := "shape", desc := "()I" } : Jvm.MethodName) prog_5_method_5_code (1 : Nat) (Option.some Jvm.ClassFile.FieldType.int)) ∈ lw_all := lw_g (lw_at lw_m2 70 rfl) rfl
theorem q380 : (Jvm.Cond.castable "LevelScores$Simple" "LevelScores$Shaped") ∈ lw_tbl := lw_at lw_m2 87 rfl
theorem q381 : (Jvm.Cond.selects "LevelScores$Simple" ({ cls := "LevelScores$Shaped", name := "hard", desc := "()I" } : Jvm.MethodName) ({ cls := "LevelScores$Simple", name := "hard", desc := "()I" } : Jvm.MethodName)) ∈ lw_all := lw_g (lw_at lw_m2 88 rfl) rfl
theorem q382 : (Jvm.Cond.unhidden "LevelScores$Simple" "hard" "()I") ∈ lw_tbl := lw_at lw_m2 89 rfl
theorem q383 : (Jvm.Cond.instanceMethod ({ cls := "LevelScores$Simple", name := "hard", desc := "()I" } : Jvm.MethodName)) ∈ lw_all := lw_g (lw_at lw_m2 90 rfl) rfl
theorem q384 : (Jvm.Cond.publicMethod ({ cls := "LevelScores$Simple", name := "hard", desc := "()I" } : Jvm.MethodName)) ∈ lw_tbl := lw_at lw_m2 91 rfl
theorem q385 : (Jvm.Cond.code ({ cls := "LevelScores$Simple", name := "hard", desc := "()I" } : Jvm.MethodName) prog_5_method_3_code (1 : Nat) (Option.some Jvm.ClassFile.FieldType.int)) ∈ lw_all := lw_g (lw_at lw_m2 92 rfl) rfl
theorem q414 : (Jvm.Cond.selects "LevelScores$Simple" ({ cls := "LevelScores$Shaped", name := "soft", desc := "()I" } : Jvm.MethodName) ({ cls := "LevelScores$Simple", name := "soft", desc := "()I" } : Jvm.MethodName)) ∈ lw_all := lw_g (lw_at lw_m2 121 rfl) rfl
theorem q415 : (Jvm.Cond.unhidden "LevelScores$Simple" "soft" "()I") ∈ lw_tbl := lw_at lw_m2 122 rfl
theorem q416 : (Jvm.Cond.instanceMethod ({ cls := "LevelScores$Simple", name := "soft", desc := "()I" } : Jvm.MethodName)) ∈ lw_all := lw_g (lw_at lw_m2 123 rfl) rfl
theorem q417 : (Jvm.Cond.publicMethod ({ cls := "LevelScores$Simple", name := "soft", desc := "()I" } : Jvm.MethodName)) ∈ lw_tbl := lw_at lw_m2 124 rfl
theorem q418 : (Jvm.Cond.code ({ cls := "LevelScores$Simple", name := "soft", desc := "()I" } : Jvm.MethodName) prog_5_method_4_code (1 : Nat) (Option.some Jvm.ClassFile.FieldType.int)) ∈ lw_all := lw_g (lw_at lw_m2 125 rfl) rfl
theorem q426 : (Jvm.Cond.declares ({ cls := "LevelScores$Simple", name := "soft", desc := "()I" } : Jvm.MethodName)) ∈ lw_tbl := lw_at lw_m2 133 rfl
theorem q429 : (Jvm.Cond.unhidden "LevelScores$Simple" "levels" "()I") ∈ lw_tbl := lw_at lw_m2 136 rfl
theorem q443 : (Jvm.Cond.unhidden "LevelScores$Simple" "isHard" "(I)Z") ∈ lw_tbl := lw_at lw_m2 150 rfl
theorem q481 : (Jvm.Cond.selects "LevelScores$Simple" ({ cls := "LevelScores$Score", name := "match", desc := "(LLevelScores$Score;)V" } : Jvm.MethodName) ({ cls := "LevelScores$Simple", name := "match", desc := "(LLevelScores$Score;)V" } : Jvm.MethodName)) ∈ lw_all := lw_g (lw_at lw_m2 188 rfl) rfl
theorem q482 : (Jvm.Cond.instanceMethod ({ cls := "LevelScores$Simple", name := "match", desc := "(LLevelScores$Score;)V" } : Jvm.MethodName)) ∈ lw_all := lw_g (lw_at lw_m2 189 rfl) rfl
theorem q483 : (Jvm.Cond.code ({ cls := "LevelScores$Simple", name := "match", desc := "(LLevelScores$Score;)V" } : Jvm.MethodName) prog_5_method_7_code (3 : Nat) (Option.none : Option Jvm.ClassFile.FieldType)) ∈ lw_all := lw_g (lw_at lw_m2 190 rfl) rfl
theorem q484 : (Jvm.Cond.classLink "LevelScores$Simple" (7 : Nat) "LevelScores$Simple") ∈ lw_all := lw_g (lw_at lw_m2 191 rfl) rfl
theorem q499 : (Jvm.Cond.selects "LevelScores$Simple" ({ cls := "LevelScores$Score", name := "isLess", desc := "(LLevelScores$Score;)Z" } : Jvm.MethodName) ({ cls := "LevelScores$Score", name := "isLess", desc := "(LLevelScores$Score;)Z" } : Jvm.MethodName)) ∈ lw_all := lw_g (lw_at lw_m2 206 rfl) rfl
theorem q507 : (Jvm.Cond.selects "LevelScores$Simple" ({ cls := "LevelScores$Score", name := "differ", desc := "(LLevelScores$Score;)I" } : Jvm.MethodName) ({ cls := "LevelScores$Score", name := "differ", desc := "(LLevelScores$Score;)I" } : Jvm.MethodName)) ∈ lw_all := lw_g (lw_at lw_m2 214 rfl) rfl
theorem q515 : (Jvm.Cond.selects "LevelScores$Simple" ({ cls := "LevelScores$Score", name := "copy", desc := "()LLevelScores$Score;" } : Jvm.MethodName) ({ cls := "LevelScores$Score", name := "copy", desc := "()LLevelScores$Score;" } : Jvm.MethodName)) ∈ lw_all := lw_g (lw_at lw_m2 222 rfl) rfl
theorem q526 : (Jvm.Cond.selects "LevelScores$Simple" ({ cls := "LevelScores$Score", name := "fresh", desc := "()LLevelScores$Score;" } : Jvm.MethodName) ({ cls := "LevelScores$Simple", name := "fresh", desc := "()LLevelScores$Score;" } : Jvm.MethodName)) ∈ lw_all := lw_g (lw_at lw_m2 233 rfl) rfl
theorem q527 : (Jvm.Cond.instanceMethod ({ cls := "LevelScores$Simple", name := "fresh", desc := "()LLevelScores$Score;" } : Jvm.MethodName)) ∈ lw_all := lw_g (lw_at lw_m2 234 rfl) rfl
theorem q528 : (Jvm.Cond.code ({ cls := "LevelScores$Simple", name := "fresh", desc := "()LLevelScores$Score;" } : Jvm.MethodName) prog_5_method_6_code (1 : Nat) (Option.some (Jvm.ClassFile.FieldType.object "LevelScores$Score"))) ∈ lw_all := lw_g (lw_at lw_m2 235 rfl) rfl
theorem q529 : (Jvm.Cond.methodLink "LevelScores$Simple" (9 : Nat) ({ cls := "LevelScores$Simple", name := "<init>", desc := "()V" } : Jvm.MethodName)) ∈ lw_all := lw_g (lw_at lw_m2 236 rfl) rfl
theorem q1139 : (Jvm.Cond.sameMethod "LevelScores$Simple" "LevelScores$Simple" "match" "(LLevelScores$Score;)V") ∈ lw_all := lw_g (lw_at lw_m5 126 rfl) rfl
theorem q1145 : (Jvm.Cond.castable "LevelScores$Simple" "java/lang/Object") ∈ lw_tbl := lw_at lw_m5 132 rfl
theorem q1160 : (Jvm.Cond.castable "LevelScores$Simple" "LevelScores$Score") ∈ lw_tbl := lw_at lw_m5 147 rfl
theorem in_X3 : ∀ w ∈ wsX30, w ∈ lw_all := lw_in wsX30 [99] (by decide +kernel) (by decide +kernel)

/-! LevelScores$Two -/
set_option maxRecDepth 100000
def RX5 : String := "LevelScores$Two"
def TX5 : u_T := fun k => match k with
  | _ => ("LevelScores$Score", "level", "[J", true)
def tyX5 : Nat → FieldType := fun k => match k with
  | _ => .array .long
abbrev wsX50 : List Cond := u_ws RX5 TX5 1
theorem nmX5 : ∀ a, a < 1 → ∀ b, b < 1 → a ≠ b → (TX5 a).2.1 ≠ (TX5 b).2.1 := by decide +kernel
theorem tyX5_ok : ∀ k, k < 1 → parseFieldDescriptor (TX5 k).2.2.1 = some (tyX5 k) := by decide +kernel
abbrev cX5_init : ByteArray := prog_7_method_1_code
def yX5_init : MethodName := ⟨RX5, "<init>", "()V"⟩
def dkwX5_init_0 : List UInt8 := [42, 5, 183, 0, 1, 177]
abbrev dktX5_init_0 : List UInt8 := dkwX5_init_0 ++ []
theorem dksX5_init_0 : cX5_init.data.toList.drop 0 = dktX5_init_0 := by decide +kernel
theorem dX5_init_0 : decode cX5_init 0 = .ok (.aload_n 0, 1) := dk_42 (dk_at dksX5_init_0 0 rfl rfl)
theorem dX5_init_1 : decode cX5_init 1 = .ok (.iconst 2, 1) := dk_5 (dk_at dksX5_init_0 1 rfl rfl)
theorem dX5_init_2 : decode cX5_init 2 = .ok (.invokespecial 1, 3) := dk_183 0 1 (dk_at dksX5_init_0 2 rfl rfl)
theorem dX5_init_5 : decode cX5_init 5 = .ok (.return_, 1) := dk_177 (dk_at dksX5_init_0 5 rfl rfl)
abbrev cX5_init_2 : ByteArray := prog_7_method_2_code
def yX5_init_2 : MethodName := ⟨RX5, "<init>", "(I)V"⟩
def dkwX5_init_2_0 : List UInt8 := [42, 27, 183, 0, 1, 177]
abbrev dktX5_init_2_0 : List UInt8 := dkwX5_init_2_0 ++ []
theorem dksX5_init_2_0 : cX5_init_2.data.toList.drop 0 = dktX5_init_2_0 := by decide +kernel
theorem dX5_init_2_0 : decode cX5_init_2 0 = .ok (.aload_n 0, 1) := dk_42 (dk_at dksX5_init_2_0 0 rfl rfl)
theorem dX5_init_2_1 : decode cX5_init_2 1 = .ok (.iload_n 1, 1) := dk_27 (dk_at dksX5_init_2_0 1 rfl rfl)
theorem dX5_init_2_2 : decode cX5_init_2 2 = .ok (.invokespecial 1, 3) := dk_183 0 1 (dk_at dksX5_init_2_0 2 rfl rfl)
theorem dX5_init_2_5 : decode cX5_init_2 5 = .ok (.return_, 1) := dk_177 (dk_at dksX5_init_2_0 5 rfl rfl)
abbrev cX5_shape : ByteArray := prog_7_method_4_code
def yX5_shape : MethodName := ⟨RX5, "shape", "()I"⟩
theorem dX5_shape_0 : decode cX5_shape 0 = .ok (.iconst 1, 1) := by decide +kernel
theorem dX5_shape_1 : decode cX5_shape 1 = .ok (.ireturn, 1) := by decide +kernel
abbrev cX5_hard : ByteArray := prog_7_method_3_code
def yX5_hard : MethodName := ⟨RX5, "hard", "()I"⟩
theorem dX5_hard_0 : decode cX5_hard 0 = .ok (.iconst 1, 1) := by decide +kernel
theorem dX5_hard_1 : decode cX5_hard 1 = .ok (.ireturn, 1) := by decide +kernel
abbrev cX5_match : ByteArray := prog_7_method_6_code
def yX5_match : MethodName := ⟨RX5, "match", "(LLevelScores$Score;)V"⟩
def dkwX5_match_0 : List UInt8 := [42, 43, 183, 0, 12, 43, 192, 0, 7, 77, 177]
abbrev dktX5_match_0 : List UInt8 := dkwX5_match_0 ++ []
theorem dksX5_match_0 : cX5_match.data.toList.drop 0 = dktX5_match_0 := by decide +kernel
theorem dX5_match_0 : decode cX5_match 0 = .ok (.aload_n 0, 1) := dk_42 (dk_at dksX5_match_0 0 rfl rfl)
theorem dX5_match_1 : decode cX5_match 1 = .ok (.aload_n 1, 1) := dk_43 (dk_at dksX5_match_0 1 rfl rfl)
theorem dX5_match_2 : decode cX5_match 2 = .ok (.invokespecial 12, 3) := dk_183 0 12 (dk_at dksX5_match_0 2 rfl rfl)
theorem dX5_match_5 : decode cX5_match 5 = .ok (.aload_n 1, 1) := dk_43 (dk_at dksX5_match_0 5 rfl rfl)
theorem dX5_match_6 : decode cX5_match 6 = .ok (.checkcast 7, 3) := dk_192 0 7 (dk_at dksX5_match_0 6 rfl rfl)
theorem dX5_match_9 : decode cX5_match 9 = .ok (.astore_n 2, 1) := dk_77 (dk_at dksX5_match_0 9 rfl rfl)
theorem dX5_match_10 : decode cX5_match 10 = .ok (.return_, 1) := dk_177 (dk_at dksX5_match_0 10 rfl rfl)
abbrev cX5_fresh : ByteArray := prog_7_method_5_code
def yX5_fresh : MethodName := ⟨RX5, "fresh", "()LLevelScores$Score;"⟩
def dkwX5_fresh_0 : List UInt8 := [187, 0, 7, 89, 183, 0, 9, 176]
abbrev dktX5_fresh_0 : List UInt8 := dkwX5_fresh_0 ++ []
theorem dksX5_fresh_0 : cX5_fresh.data.toList.drop 0 = dktX5_fresh_0 := by decide +kernel
theorem dX5_fresh_0 : decode cX5_fresh 0 = .ok (.new 7, 3) := dk_187 0 7 (dk_at dksX5_fresh_0 0 rfl rfl)
theorem dX5_fresh_3 : decode cX5_fresh 3 = .ok (.dup, 1) := dk_89 (dk_at dksX5_fresh_0 3 rfl rfl)
theorem dX5_fresh_4 : decode cX5_fresh 4 = .ok (.invokespecial 9, 3) := dk_183 0 9 (dk_at dksX5_fresh_0 4 rfl rfl)
theorem dX5_fresh_7 : decode cX5_fresh 7 = .ok (.areturn, 1) := dk_176 (dk_at dksX5_fresh_0 7 rfl rfl)
theorem q63 : (Jvm.Cond.initialized "LevelScores$Two") ∈ lw_all := lw_g (lw_at lw_m1 10 rfl) rfl
theorem q255 : (Jvm.Cond.instantiable "LevelScores$Two" (1 : Nat)) ∈ lw_all := lw_g (lw_at lw_m1 202 rfl) rfl
theorem q257 : (Jvm.Cond.instanceMethod ({ cls := "LevelScores$Two", name := "<init>", desc := "()V" } : Jvm.MethodName)) ∈ lw_all := lw_g (lw_at lw_m1 204 rfl) rfl
theorem q258 : (Jvm.Cond.code ({ cls := "LevelScores$Two", name := "<init>", desc := "()V" } : Jvm.MethodName) prog_7_method_1_code (1 : Nat) (Option.none : Option Jvm.ClassFile.FieldType)) ∈ lw_all := lw_g (lw_at lw_m1 205 rfl) rfl
theorem q259 : (Jvm.Cond.methodLink "LevelScores$Two" (1 : Nat) ({ cls := "LevelScores$Simple", name := "<init>", desc := "(I)V" } : Jvm.MethodName)) ∈ lw_all := lw_g (lw_at lw_m1 206 rfl) rfl
theorem q262 : (Jvm.Cond.laysFinal "LevelScores$Two" "LevelScores$Score" "level" "[J") ∈ lw_all := lw_g (lw_at lw_m1 209 rfl) rfl
theorem q263 : (Jvm.Cond.superclass "LevelScores$Two" "LevelScores$Simple") ∈ lw_all := lw_g (lw_at lw_m1 210 rfl) rfl
theorem q270 : (Jvm.Cond.instanceMethod ({ cls := "LevelScores$Two", name := "<init>", desc := "(I)V" } : Jvm.MethodName)) ∈ lw_all := lw_g (lw_at lw_m1 217 rfl) rfl
theorem q271 : (Jvm.Cond.code ({ cls := "LevelScores$Two", name := "<init>", desc := "(I)V" } : Jvm.MethodName) prog_7_method_2_code (2 : Nat) (Option.none : Option Jvm.ClassFile.FieldType)) ∈ lw_all := lw_g (lw_at lw_m1 218 rfl) rfl
theorem q367 : (Jvm.Cond.selects "LevelScores$Two" ({ cls := "LevelScores$Score", name := "shape", desc := "()I" } : Jvm.MethodName) ({ cls := "LevelScores$Two", name := "shape", desc := "()I" } : Jvm.MethodName)) ∈ lw_all := lw_g (lw_at lw_m2 74 rfl) rfl
theorem q368 : (Jvm.Cond.instanceMethod ({ cls := "LevelScores$Two", name := "shape", desc := "()I" } : Jvm.MethodName)) ∈ lw_all := lw_g (lw_at lw_m2 75 rfl) rfl
theorem q369 : (Jvm.Cond.code ({ cls := "LevelScores$Two", name := "shape", desc := "()I" } : Jvm.MethodName) prog_7_method_4_code (1 : Nat) (Option.some Jvm.ClassFile.FieldType.int)) ∈ lw_all := lw_g (lw_at lw_m2 76 rfl) rfl
theorem q389 : (Jvm.Cond.instanceMethod ({ cls := "LevelScores$Two", name := "hard", desc := "()I" } : Jvm.MethodName)) ∈ lw_all := lw_g (lw_at lw_m2 96 rfl) rfl
theorem q390 : (Jvm.Cond.publicMethod ({ cls := "LevelScores$Two", name := "hard", desc := "()I" } : Jvm.MethodName)) ∈ lw_tbl := lw_at lw_m2 97 rfl
theorem q391 : (Jvm.Cond.code ({ cls := "LevelScores$Two", name := "hard", desc := "()I" } : Jvm.MethodName) prog_7_method_3_code (1 : Nat) (Option.some Jvm.ClassFile.FieldType.int)) ∈ lw_all := lw_g (lw_at lw_m2 98 rfl) rfl
theorem q392 : (Jvm.Cond.castable "LevelScores$Two" "LevelScores$Shaped") ∈ lw_tbl := lw_at lw_m2 99 rfl
theorem q393 : (Jvm.Cond.selects "LevelScores$Two" ({ cls := "LevelScores$Shaped", name := "hard", desc := "()I" } : Jvm.MethodName) ({ cls := "LevelScores$Two", name := "hard", desc := "()I" } : Jvm.MethodName)) ∈ lw_all := lw_g (lw_at lw_m2 100 rfl) rfl
theorem q394 : (Jvm.Cond.unhidden "LevelScores$Two" "hard" "()I") ∈ lw_tbl := lw_at lw_m2 101 rfl
theorem q425 : (Jvm.Cond.sameMethod "LevelScores$Two" "LevelScores$Simple" "soft" "()I") ∈ lw_all := lw_g (lw_at lw_m2 132 rfl) rfl
theorem q427 : (Jvm.Cond.selects "LevelScores$Two" ({ cls := "LevelScores$Shaped", name := "soft", desc := "()I" } : Jvm.MethodName) ({ cls := "LevelScores$Simple", name := "soft", desc := "()I" } : Jvm.MethodName)) ∈ lw_all := lw_g (lw_at lw_m2 134 rfl) rfl
theorem q428 : (Jvm.Cond.unhidden "LevelScores$Two" "soft" "()I") ∈ lw_tbl := lw_at lw_m2 135 rfl
theorem q431 : (Jvm.Cond.unhidden "LevelScores$Two" "levels" "()I") ∈ lw_tbl := lw_at lw_m2 138 rfl
theorem q445 : (Jvm.Cond.unhidden "LevelScores$Two" "isHard" "(I)Z") ∈ lw_tbl := lw_at lw_m2 152 rfl
theorem q489 : (Jvm.Cond.instanceMethod ({ cls := "LevelScores$Two", name := "match", desc := "(LLevelScores$Score;)V" } : Jvm.MethodName)) ∈ lw_all := lw_g (lw_at lw_m2 196 rfl) rfl
theorem q490 : (Jvm.Cond.code ({ cls := "LevelScores$Two", name := "match", desc := "(LLevelScores$Score;)V" } : Jvm.MethodName) prog_7_method_6_code (3 : Nat) (Option.none : Option Jvm.ClassFile.FieldType)) ∈ lw_all := lw_g (lw_at lw_m2 197 rfl) rfl
theorem q491 : (Jvm.Cond.methodLink "LevelScores$Two" (12 : Nat) ({ cls := "LevelScores$Simple", name := "match", desc := "(LLevelScores$Score;)V" } : Jvm.MethodName)) ∈ lw_all := lw_g (lw_at lw_m2 198 rfl) rfl
theorem q492 : (Jvm.Cond.classLink "LevelScores$Two" (7 : Nat) "LevelScores$Two") ∈ lw_all := lw_g (lw_at lw_m2 199 rfl) rfl
theorem q494 : (Jvm.Cond.selects "LevelScores$Two" ({ cls := "LevelScores$Score", name := "match", desc := "(LLevelScores$Score;)V" } : Jvm.MethodName) ({ cls := "LevelScores$Two", name := "match", desc := "(LLevelScores$Score;)V" } : Jvm.MethodName)) ∈ lw_all := lw_g (lw_at lw_m2 201 rfl) rfl
theorem q501 : (Jvm.Cond.selects "LevelScores$Two" ({ cls := "LevelScores$Score", name := "isLess", desc := "(LLevelScores$Score;)Z" } : Jvm.MethodName) ({ cls := "LevelScores$Score", name := "isLess", desc := "(LLevelScores$Score;)Z" } : Jvm.MethodName)) ∈ lw_all := lw_g (lw_at lw_m2 208 rfl) rfl
theorem q509 : (Jvm.Cond.selects "LevelScores$Two" ({ cls := "LevelScores$Score", name := "differ", desc := "(LLevelScores$Score;)I" } : Jvm.MethodName) ({ cls := "LevelScores$Score", name := "differ", desc := "(LLevelScores$Score;)I" } : Jvm.MethodName)) ∈ lw_all := lw_g (lw_at lw_m2 216 rfl) rfl
theorem q517 : (Jvm.Cond.selects "LevelScores$Two" ({ cls := "LevelScores$Score", name := "copy", desc := "()LLevelScores$Score;" } : Jvm.MethodName) ({ cls := "LevelScores$Score", name := "copy", desc := "()LLevelScores$Score;" } : Jvm.MethodName)) ∈ lw_all := lw_g (lw_at lw_m2 224 rfl) rfl
theorem q534 : (Jvm.Cond.selects "LevelScores$Two" ({ cls := "LevelScores$Score", name := "fresh", desc := "()LLevelScores$Score;" } : Jvm.MethodName) ({ cls := "LevelScores$Two", name := "fresh", desc := "()LLevelScores$Score;" } : Jvm.MethodName)) ∈ lw_all := lw_g (lw_at lw_m3 1 rfl) rfl
theorem q535 : (Jvm.Cond.instanceMethod ({ cls := "LevelScores$Two", name := "fresh", desc := "()LLevelScores$Score;" } : Jvm.MethodName)) ∈ lw_all := lw_g (lw_at lw_m3 2 rfl) rfl
theorem q536 : (Jvm.Cond.code ({ cls := "LevelScores$Two", name := "fresh", desc := "()LLevelScores$Score;" } : Jvm.MethodName) prog_7_method_5_code (1 : Nat) (Option.some (Jvm.ClassFile.FieldType.object "LevelScores$Score"))) ∈ lw_all := lw_g (lw_at lw_m3 3 rfl) rfl
theorem q537 : (Jvm.Cond.methodLink "LevelScores$Two" (9 : Nat) ({ cls := "LevelScores$Two", name := "<init>", desc := "()V" } : Jvm.MethodName)) ∈ lw_all := lw_g (lw_at lw_m3 4 rfl) rfl
theorem q1138 : (Jvm.Cond.sameMethod "LevelScores$Two" "LevelScores$Two" "match" "(LLevelScores$Score;)V") ∈ lw_all := lw_g (lw_at lw_m5 125 rfl) rfl
theorem q1142 : (Jvm.Cond.castable "LevelScores$Two" "LevelScores$Simple") ∈ lw_tbl := lw_at lw_m5 129 rfl
theorem q1148 : (Jvm.Cond.castable "LevelScores$Two" "java/lang/Object") ∈ lw_tbl := lw_at lw_m5 135 rfl
theorem q1161 : (Jvm.Cond.castable "LevelScores$Two" "LevelScores$Score") ∈ lw_tbl := lw_at lw_m5 148 rfl
theorem in_X5 : ∀ w ∈ wsX50, w ∈ lw_all := lw_in wsX50 [262] (by decide +kernel) (by decide +kernel)

/-! LevelScores$Three -/
set_option maxRecDepth 100000
def RX6 : String := "LevelScores$Three"
def TX6 : u_T := fun k => match k with
  | _ => ("LevelScores$Score", "level", "[J", true)
def tyX6 : Nat → FieldType := fun k => match k with
  | _ => .array .long
abbrev wsX60 : List Cond := u_ws RX6 TX6 1
theorem nmX6 : ∀ a, a < 1 → ∀ b, b < 1 → a ≠ b → (TX6 a).2.1 ≠ (TX6 b).2.1 := by decide +kernel
theorem tyX6_ok : ∀ k, k < 1 → parseFieldDescriptor (TX6 k).2.2.1 = some (tyX6 k) := by decide +kernel
abbrev cX6_init : ByteArray := prog_6_method_1_code
def yX6_init : MethodName := ⟨RX6, "<init>", "()V"⟩
def dkwX6_init_0 : List UInt8 := [42, 6, 183, 0, 1, 177]
abbrev dktX6_init_0 : List UInt8 := dkwX6_init_0 ++ []
theorem dksX6_init_0 : cX6_init.data.toList.drop 0 = dktX6_init_0 := by decide +kernel
theorem dX6_init_0 : decode cX6_init 0 = .ok (.aload_n 0, 1) := dk_42 (dk_at dksX6_init_0 0 rfl rfl)
theorem dX6_init_1 : decode cX6_init 1 = .ok (.iconst 3, 1) := dk_6 (dk_at dksX6_init_0 1 rfl rfl)
theorem dX6_init_2 : decode cX6_init 2 = .ok (.invokespecial 1, 3) := dk_183 0 1 (dk_at dksX6_init_0 2 rfl rfl)
theorem dX6_init_5 : decode cX6_init 5 = .ok (.return_, 1) := dk_177 (dk_at dksX6_init_0 5 rfl rfl)
abbrev cX6_shape : ByteArray := prog_6_method_3_code
def yX6_shape : MethodName := ⟨RX6, "shape", "()I"⟩
theorem dX6_shape_0 : decode cX6_shape 0 = .ok (.iconst 2, 1) := by decide +kernel
theorem dX6_shape_1 : decode cX6_shape 1 = .ok (.ireturn, 1) := by decide +kernel
abbrev cX6_soft : ByteArray := prog_6_method_2_code
def yX6_soft : MethodName := ⟨RX6, "soft", "()I"⟩
def dkwX6_soft_0 : List UInt8 := [42, 183, 0, 7, 4, 96, 172]
abbrev dktX6_soft_0 : List UInt8 := dkwX6_soft_0 ++ []
theorem dksX6_soft_0 : cX6_soft.data.toList.drop 0 = dktX6_soft_0 := by decide +kernel
theorem dX6_soft_0 : decode cX6_soft 0 = .ok (.aload_n 0, 1) := dk_42 (dk_at dksX6_soft_0 0 rfl rfl)
theorem dX6_soft_1 : decode cX6_soft 1 = .ok (.invokespecial 7, 3) := dk_183 0 7 (dk_at dksX6_soft_0 1 rfl rfl)
theorem dX6_soft_4 : decode cX6_soft 4 = .ok (.iconst 1, 1) := dk_4 (dk_at dksX6_soft_0 4 rfl rfl)
theorem dX6_soft_5 : decode cX6_soft 5 = .ok (.iadd, 1) := dk_96 (dk_at dksX6_soft_0 5 rfl rfl)
theorem dX6_soft_6 : decode cX6_soft 6 = .ok (.ireturn, 1) := dk_172 (dk_at dksX6_soft_0 6 rfl rfl)
abbrev cX6_match : ByteArray := prog_6_method_5_code
def yX6_match : MethodName := ⟨RX6, "match", "(LLevelScores$Score;)V"⟩
def dkwX6_match_0 : List UInt8 := [42, 43, 183, 0, 16, 43, 192, 0, 11, 77, 177]
abbrev dktX6_match_0 : List UInt8 := dkwX6_match_0 ++ []
theorem dksX6_match_0 : cX6_match.data.toList.drop 0 = dktX6_match_0 := by decide +kernel
theorem dX6_match_0 : decode cX6_match 0 = .ok (.aload_n 0, 1) := dk_42 (dk_at dksX6_match_0 0 rfl rfl)
theorem dX6_match_1 : decode cX6_match 1 = .ok (.aload_n 1, 1) := dk_43 (dk_at dksX6_match_0 1 rfl rfl)
theorem dX6_match_2 : decode cX6_match 2 = .ok (.invokespecial 16, 3) := dk_183 0 16 (dk_at dksX6_match_0 2 rfl rfl)
theorem dX6_match_5 : decode cX6_match 5 = .ok (.aload_n 1, 1) := dk_43 (dk_at dksX6_match_0 5 rfl rfl)
theorem dX6_match_6 : decode cX6_match 6 = .ok (.checkcast 11, 3) := dk_192 0 11 (dk_at dksX6_match_0 6 rfl rfl)
theorem dX6_match_9 : decode cX6_match 9 = .ok (.astore_n 2, 1) := dk_77 (dk_at dksX6_match_0 9 rfl rfl)
theorem dX6_match_10 : decode cX6_match 10 = .ok (.return_, 1) := dk_177 (dk_at dksX6_match_0 10 rfl rfl)
abbrev cX6_fresh : ByteArray := prog_6_method_4_code
def yX6_fresh : MethodName := ⟨RX6, "fresh", "()LLevelScores$Score;"⟩
def dkwX6_fresh_0 : List UInt8 := [187, 0, 11, 89, 183, 0, 13, 176]
abbrev dktX6_fresh_0 : List UInt8 := dkwX6_fresh_0 ++ []
theorem dksX6_fresh_0 : cX6_fresh.data.toList.drop 0 = dktX6_fresh_0 := by decide +kernel
theorem dX6_fresh_0 : decode cX6_fresh 0 = .ok (.new 11, 3) := dk_187 0 11 (dk_at dksX6_fresh_0 0 rfl rfl)
theorem dX6_fresh_3 : decode cX6_fresh 3 = .ok (.dup, 1) := dk_89 (dk_at dksX6_fresh_0 3 rfl rfl)
theorem dX6_fresh_4 : decode cX6_fresh 4 = .ok (.invokespecial 13, 3) := dk_183 0 13 (dk_at dksX6_fresh_0 4 rfl rfl)
theorem dX6_fresh_7 : decode cX6_fresh 7 = .ok (.areturn, 1) := dk_176 (dk_at dksX6_fresh_0 7 rfl rfl)
theorem q64 : (Jvm.Cond.initialized "LevelScores$Three") ∈ lw_all := lw_g (lw_at lw_m1 11 rfl) rfl
theorem q265 : (Jvm.Cond.instantiable "LevelScores$Three" (1 : Nat)) ∈ lw_all := lw_g (lw_at lw_m1 212 rfl) rfl
theorem q267 : (Jvm.Cond.instanceMethod ({ cls := "LevelScores$Three", name := "<init>", desc := "()V" } : Jvm.MethodName)) ∈ lw_all := lw_g (lw_at lw_m1 214 rfl) rfl
theorem q268 : (Jvm.Cond.code ({ cls := "LevelScores$Three", name := "<init>", desc := "()V" } : Jvm.MethodName) prog_6_method_1_code (1 : Nat) (Option.none : Option Jvm.ClassFile.FieldType)) ∈ lw_all := lw_g (lw_at lw_m1 215 rfl) rfl
theorem q269 : (Jvm.Cond.methodLink "LevelScores$Three" (1 : Nat) ({ cls := "LevelScores$Two", name := "<init>", desc := "(I)V" } : Jvm.MethodName)) ∈ lw_all := lw_g (lw_at lw_m1 216 rfl) rfl
theorem q272 : (Jvm.Cond.laysFinal "LevelScores$Three" "LevelScores$Score" "level" "[J") ∈ lw_all := lw_g (lw_at lw_m1 219 rfl) rfl
theorem q273 : (Jvm.Cond.superclass "LevelScores$Three" "LevelScores$Two") ∈ lw_all := lw_g (lw_at lw_m1 220 rfl) rfl
theorem q364 : (Jvm.Cond.selects "LevelScores$Three" ({ cls := "LevelScores$Score", name := "shape", desc := "()I" } : Jvm.MethodName) ({ cls := "LevelScores$Three", name := "shape", desc := "()I" } : Jvm.MethodName)) ∈ lw_all := lw_g (lw_at lw_m2 71 rfl) rfl
theorem q365 : (Jvm.Cond.instanceMethod ({ cls := "LevelScores$Three", name := "shape", desc := "()I" } : Jvm.MethodName)) ∈ lw_all := lw_g (lw_at lw_m2 72 rfl) rfl
theorem q366 : (Jvm.Cond.code ({ cls := "LevelScores$Three", name := "shape", desc := "()I" } : Jvm.MethodName) prog_6_method_3_code (1 : Nat) (Option.some Jvm.ClassFile.FieldType.int)) ∈ lw_all := lw_g (lw_at lw_m2 73 rfl) rfl
theorem q386 : (Jvm.Cond.castable "LevelScores$Three" "LevelScores$Shaped") ∈ lw_tbl := lw_at lw_m2 93 rfl
theorem q387 : (Jvm.Cond.selects "LevelScores$Three" ({ cls := "LevelScores$Shaped", name := "hard", desc := "()I" } : Jvm.MethodName) ({ cls := "LevelScores$Two", name := "hard", desc := "()I" } : Jvm.MethodName)) ∈ lw_all := lw_g (lw_at lw_m2 94 rfl) rfl
theorem q388 : (Jvm.Cond.unhidden "LevelScores$Three" "hard" "()I") ∈ lw_tbl := lw_at lw_m2 95 rfl
theorem q419 : (Jvm.Cond.selects "LevelScores$Three" ({ cls := "LevelScores$Shaped", name := "soft", desc := "()I" } : Jvm.MethodName) ({ cls := "LevelScores$Three", name := "soft", desc := "()I" } : Jvm.MethodName)) ∈ lw_all := lw_g (lw_at lw_m2 126 rfl) rfl
theorem q420 : (Jvm.Cond.unhidden "LevelScores$Three" "soft" "()I") ∈ lw_tbl := lw_at lw_m2 127 rfl
theorem q421 : (Jvm.Cond.instanceMethod ({ cls := "LevelScores$Three", name := "soft", desc := "()I" } : Jvm.MethodName)) ∈ lw_all := lw_g (lw_at lw_m2 128 rfl) rfl
theorem q422 : (Jvm.Cond.publicMethod ({ cls := "LevelScores$Three", name := "soft", desc := "()I" } : Jvm.MethodName)) ∈ lw_tbl := lw_at lw_m2 129 rfl
theorem q423 : (Jvm.Cond.code ({ cls := "LevelScores$Three", name := "soft", desc := "()I" } : Jvm.MethodName) prog_6_method_2_code (1 : Nat) (Option.some Jvm.ClassFile.FieldType.int)) ∈ lw_all := lw_g (lw_at lw_m2 130 rfl) rfl
theorem q424 : (Jvm.Cond.methodLink "LevelScores$Three" (7 : Nat) ({ cls := "LevelScores$Two", name := "soft", desc := "()I" } : Jvm.MethodName)) ∈ lw_all := lw_g (lw_at lw_m2 131 rfl) rfl
theorem q430 : (Jvm.Cond.unhidden "LevelScores$Three" "levels" "()I") ∈ lw_tbl := lw_at lw_m2 137 rfl
theorem q444 : (Jvm.Cond.unhidden "LevelScores$Three" "isHard" "(I)Z") ∈ lw_tbl := lw_at lw_m2 151 rfl
theorem q485 : (Jvm.Cond.selects "LevelScores$Three" ({ cls := "LevelScores$Score", name := "match", desc := "(LLevelScores$Score;)V" } : Jvm.MethodName) ({ cls := "LevelScores$Three", name := "match", desc := "(LLevelScores$Score;)V" } : Jvm.MethodName)) ∈ lw_all := lw_g (lw_at lw_m2 192 rfl) rfl
theorem q486 : (Jvm.Cond.instanceMethod ({ cls := "LevelScores$Three", name := "match", desc := "(LLevelScores$Score;)V" } : Jvm.MethodName)) ∈ lw_all := lw_g (lw_at lw_m2 193 rfl) rfl
theorem q487 : (Jvm.Cond.code ({ cls := "LevelScores$Three", name := "match", desc := "(LLevelScores$Score;)V" } : Jvm.MethodName) prog_6_method_5_code (3 : Nat) (Option.none : Option Jvm.ClassFile.FieldType)) ∈ lw_all := lw_g (lw_at lw_m2 194 rfl) rfl
theorem q488 : (Jvm.Cond.methodLink "LevelScores$Three" (16 : Nat) ({ cls := "LevelScores$Two", name := "match", desc := "(LLevelScores$Score;)V" } : Jvm.MethodName)) ∈ lw_all := lw_g (lw_at lw_m2 195 rfl) rfl
theorem q493 : (Jvm.Cond.classLink "LevelScores$Three" (11 : Nat) "LevelScores$Three") ∈ lw_all := lw_g (lw_at lw_m2 200 rfl) rfl
theorem q500 : (Jvm.Cond.selects "LevelScores$Three" ({ cls := "LevelScores$Score", name := "isLess", desc := "(LLevelScores$Score;)Z" } : Jvm.MethodName) ({ cls := "LevelScores$Score", name := "isLess", desc := "(LLevelScores$Score;)Z" } : Jvm.MethodName)) ∈ lw_all := lw_g (lw_at lw_m2 207 rfl) rfl
theorem q508 : (Jvm.Cond.selects "LevelScores$Three" ({ cls := "LevelScores$Score", name := "differ", desc := "(LLevelScores$Score;)I" } : Jvm.MethodName) ({ cls := "LevelScores$Score", name := "differ", desc := "(LLevelScores$Score;)I" } : Jvm.MethodName)) ∈ lw_all := lw_g (lw_at lw_m2 215 rfl) rfl
theorem q516 : (Jvm.Cond.selects "LevelScores$Three" ({ cls := "LevelScores$Score", name := "copy", desc := "()LLevelScores$Score;" } : Jvm.MethodName) ({ cls := "LevelScores$Score", name := "copy", desc := "()LLevelScores$Score;" } : Jvm.MethodName)) ∈ lw_all := lw_g (lw_at lw_m2 223 rfl) rfl
theorem q530 : (Jvm.Cond.selects "LevelScores$Three" ({ cls := "LevelScores$Score", name := "fresh", desc := "()LLevelScores$Score;" } : Jvm.MethodName) ({ cls := "LevelScores$Three", name := "fresh", desc := "()LLevelScores$Score;" } : Jvm.MethodName)) ∈ lw_all := lw_g (lw_at lw_m2 237 rfl) rfl
theorem q531 : (Jvm.Cond.instanceMethod ({ cls := "LevelScores$Three", name := "fresh", desc := "()LLevelScores$Score;" } : Jvm.MethodName)) ∈ lw_all := lw_g (lw_at lw_m2 238 rfl) rfl
theorem q532 : (Jvm.Cond.code ({ cls := "LevelScores$Three", name := "fresh", desc := "()LLevelScores$Score;" } : Jvm.MethodName) prog_6_method_4_code (1 : Nat) (Option.some (Jvm.ClassFile.FieldType.object "LevelScores$Score"))) ∈ lw_all := lw_g (lw_at lw_m2 239 rfl) rfl
theorem q533 : (Jvm.Cond.methodLink "LevelScores$Three" (13 : Nat) ({ cls := "LevelScores$Three", name := "<init>", desc := "()V" } : Jvm.MethodName)) ∈ lw_all := lw_g (lw_at lw_m3 0 rfl) rfl
theorem q1141 : (Jvm.Cond.castable "LevelScores$Three" "LevelScores$Simple") ∈ lw_tbl := lw_at lw_m5 128 rfl
theorem q1143 : (Jvm.Cond.castable "LevelScores$Three" "LevelScores$Two") ∈ lw_tbl := lw_at lw_m5 130 rfl
theorem q1149 : (Jvm.Cond.castable "LevelScores$Three" "java/lang/Object") ∈ lw_tbl := lw_at lw_m5 136 rfl
theorem q1162 : (Jvm.Cond.castable "LevelScores$Three" "LevelScores$Score") ∈ lw_tbl := lw_at lw_m5 149 rfl
theorem in_X6 : ∀ w ∈ wsX60, w ∈ lw_all := lw_in wsX60 [272] (by decide +kernel) (by decide +kernel)

/-! LevelScores$Bent -/
set_option maxRecDepth 100000
def RX7 : String := "LevelScores$Bent"
def TX7 : u_T := fun k => match k with
  | 0 => ("LevelScores$Score", "level", "[J", true)
  | 1 => ("LevelScores$Bent", "hardOnes", "[I", true)
  | _ => ("LevelScores$Bent", "softOnes", "[I", true)
def tyX7 : Nat → FieldType := fun k => match k with
  | 0 => .array .long
  | 1 => .array .int
  | _ => .array .int
abbrev wsX70 : List Cond := u_ws RX7 TX7 3
theorem nmX7 : ∀ a, a < 3 → ∀ b, b < 3 → a ≠ b → (TX7 a).2.1 ≠ (TX7 b).2.1 := by decide +kernel
theorem tyX7_ok : ∀ k, k < 3 → parseFieldDescriptor (TX7 k).2.2.1 = some (tyX7 k) := by decide +kernel
abbrev cX7_init : ByteArray := prog_2_method_1_code
def yX7_init : MethodName := ⟨RX7, "<init>", "(II)V"⟩
def dkwX7_init_1 : List UInt8 := [181, 0, 17, 177]
abbrev dktX7_init_1 : List UInt8 := dkwX7_init_1 ++ []
def dkwX7_init_0 : List UInt8 := [42, 27, 188, 10, 28, 188, 10, 184, 0, 1, 183, 0, 7, 42, 27, 188, 10, 181, 0, 13, 42, 28, 188, 10]
abbrev dktX7_init_0 : List UInt8 := dkwX7_init_0 ++ dktX7_init_1
theorem dksX7_init_0 : cX7_init.data.toList.drop 0 = dktX7_init_0 := by decide +kernel
theorem dksX7_init_1 : cX7_init.data.toList.drop 24 = dktX7_init_1 := dk_seg dksX7_init_0 24 rfl rfl
theorem dX7_init_0 : decode cX7_init 0 = .ok (.aload_n 0, 1) := dk_42 (dk_at dksX7_init_0 0 rfl rfl)
theorem dX7_init_1 : decode cX7_init 1 = .ok (.iload_n 1, 1) := dk_27 (dk_at dksX7_init_0 1 rfl rfl)
theorem dX7_init_2 : decode cX7_init 2 = .ok (.newarray .int, 2) := dk_188_10 (dk_at dksX7_init_0 2 rfl rfl)
theorem dX7_init_4 : decode cX7_init 4 = .ok (.iload_n 2, 1) := dk_28 (dk_at dksX7_init_0 4 rfl rfl)
theorem dX7_init_5 : decode cX7_init 5 = .ok (.newarray .int, 2) := dk_188_10 (dk_at dksX7_init_0 5 rfl rfl)
theorem dX7_init_7 : decode cX7_init 7 = .ok (.invokestatic 1, 3) := dk_184 0 1 (dk_at dksX7_init_0 7 rfl rfl)
theorem dX7_init_10 : decode cX7_init 10 = .ok (.invokespecial 7, 3) := dk_183 0 7 (dk_at dksX7_init_0 10 rfl rfl)
theorem dX7_init_13 : decode cX7_init 13 = .ok (.aload_n 0, 1) := dk_42 (dk_at dksX7_init_0 13 rfl rfl)
theorem dX7_init_14 : decode cX7_init 14 = .ok (.iload_n 1, 1) := dk_27 (dk_at dksX7_init_0 14 rfl rfl)
theorem dX7_init_15 : decode cX7_init 15 = .ok (.newarray .int, 2) := dk_188_10 (dk_at dksX7_init_0 15 rfl rfl)
theorem dX7_init_17 : decode cX7_init 17 = .ok (.putfield 13, 3) := dk_181 0 13 (dk_at dksX7_init_0 17 rfl rfl)
theorem dX7_init_20 : decode cX7_init 20 = .ok (.aload_n 0, 1) := dk_42 (dk_at dksX7_init_0 20 rfl rfl)
theorem dX7_init_21 : decode cX7_init 21 = .ok (.iload_n 2, 1) := dk_28 (dk_at dksX7_init_0 21 rfl rfl)
theorem dX7_init_22 : decode cX7_init 22 = .ok (.newarray .int, 2) := dk_188_10 (dk_at dksX7_init_0 22 rfl rfl)
theorem dX7_init_24 : decode cX7_init 24 = .ok (.putfield 17, 3) := dk_181 0 17 (dk_at dksX7_init_1 0 rfl rfl)
theorem dX7_init_27 : decode cX7_init 27 = .ok (.return_, 1) := dk_177 (dk_at dksX7_init_1 3 rfl rfl)
abbrev cX7_sum : ByteArray := prog_2_method_2_code
def yX7_sum : MethodName := ⟨RX7, "sum", "([I[I)I"⟩
def dkwX7_sum_0 : List UInt8 := [42, 190, 43, 190, 96, 172]
abbrev dktX7_sum_0 : List UInt8 := dkwX7_sum_0 ++ []
theorem dksX7_sum_0 : cX7_sum.data.toList.drop 0 = dktX7_sum_0 := by decide +kernel
theorem dX7_sum_0 : decode cX7_sum 0 = .ok (.aload_n 0, 1) := dk_42 (dk_at dksX7_sum_0 0 rfl rfl)
theorem dX7_sum_1 : decode cX7_sum 1 = .ok (.arraylength, 1) := dk_190 (dk_at dksX7_sum_0 1 rfl rfl)
theorem dX7_sum_2 : decode cX7_sum 2 = .ok (.aload_n 1, 1) := dk_43 (dk_at dksX7_sum_0 2 rfl rfl)
theorem dX7_sum_3 : decode cX7_sum 3 = .ok (.arraylength, 1) := dk_190 (dk_at dksX7_sum_0 3 rfl rfl)
theorem dX7_sum_4 : decode cX7_sum 4 = .ok (.iadd, 1) := dk_96 (dk_at dksX7_sum_0 4 rfl rfl)
theorem dX7_sum_5 : decode cX7_sum 5 = .ok (.ireturn, 1) := dk_172 (dk_at dksX7_sum_0 5 rfl rfl)
abbrev cX7_shape : ByteArray := prog_2_method_5_code
def yX7_shape : MethodName := ⟨RX7, "shape", "()I"⟩
theorem dX7_shape_0 : decode cX7_shape 0 = .ok (.iconst 3, 1) := by decide +kernel
theorem dX7_shape_1 : decode cX7_shape 1 = .ok (.ireturn, 1) := by decide +kernel
abbrev cX7_hard : ByteArray := prog_2_method_3_code
def yX7_hard : MethodName := ⟨RX7, "hard", "()I"⟩
def dkwX7_hard_0 : List UInt8 := [42, 180, 0, 13, 190, 172]
abbrev dktX7_hard_0 : List UInt8 := dkwX7_hard_0 ++ []
theorem dksX7_hard_0 : cX7_hard.data.toList.drop 0 = dktX7_hard_0 := by decide +kernel
theorem dX7_hard_0 : decode cX7_hard 0 = .ok (.aload_n 0, 1) := dk_42 (dk_at dksX7_hard_0 0 rfl rfl)
theorem dX7_hard_1 : decode cX7_hard 1 = .ok (.getfield 13, 3) := dk_180 0 13 (dk_at dksX7_hard_0 1 rfl rfl)
theorem dX7_hard_4 : decode cX7_hard 4 = .ok (.arraylength, 1) := dk_190 (dk_at dksX7_hard_0 4 rfl rfl)
theorem dX7_hard_5 : decode cX7_hard 5 = .ok (.ireturn, 1) := dk_172 (dk_at dksX7_hard_0 5 rfl rfl)
abbrev cX7_soft : ByteArray := prog_2_method_4_code
def yX7_soft : MethodName := ⟨RX7, "soft", "()I"⟩
def dkwX7_soft_0 : List UInt8 := [42, 180, 0, 17, 190, 172]
abbrev dktX7_soft_0 : List UInt8 := dkwX7_soft_0 ++ []
theorem dksX7_soft_0 : cX7_soft.data.toList.drop 0 = dktX7_soft_0 := by decide +kernel
theorem dX7_soft_0 : decode cX7_soft 0 = .ok (.aload_n 0, 1) := dk_42 (dk_at dksX7_soft_0 0 rfl rfl)
theorem dX7_soft_1 : decode cX7_soft 1 = .ok (.getfield 17, 3) := dk_180 0 17 (dk_at dksX7_soft_0 1 rfl rfl)
theorem dX7_soft_4 : decode cX7_soft 4 = .ok (.arraylength, 1) := dk_190 (dk_at dksX7_soft_0 4 rfl rfl)
theorem dX7_soft_5 : decode cX7_soft 5 = .ok (.ireturn, 1) := dk_172 (dk_at dksX7_soft_0 5 rfl rfl)
abbrev cX7_match : ByteArray := prog_2_method_7_code
def yX7_match : MethodName := ⟨RX7, "match", "(LLevelScores$Score;)V"⟩
def dkwX7_match_1 : List UInt8 := [159, 0, 11, 44, 78, 45, 192, 0, 30, 58, 4, 177]
abbrev dktX7_match_1 : List UInt8 := dkwX7_match_1 ++ []
def dkwX7_match_0 : List UInt8 := [43, 192, 0, 2, 77, 44, 182, 0, 20, 42, 182, 0, 20, 160, 0, 14, 44, 182, 0, 24, 42, 182, 0, 24]
abbrev dktX7_match_0 : List UInt8 := dkwX7_match_0 ++ dktX7_match_1
theorem dksX7_match_0 : cX7_match.data.toList.drop 0 = dktX7_match_0 := by decide +kernel
theorem dksX7_match_1 : cX7_match.data.toList.drop 24 = dktX7_match_1 := dk_seg dksX7_match_0 24 rfl rfl
theorem dX7_match_0 : decode cX7_match 0 = .ok (.aload_n 1, 1) := dk_43 (dk_at dksX7_match_0 0 rfl rfl)
theorem dX7_match_1 : decode cX7_match 1 = .ok (.checkcast 2, 3) := dk_192 0 2 (dk_at dksX7_match_0 1 rfl rfl)
theorem dX7_match_4 : decode cX7_match 4 = .ok (.astore_n 2, 1) := dk_77 (dk_at dksX7_match_0 4 rfl rfl)
theorem dX7_match_5 : decode cX7_match 5 = .ok (.aload_n 2, 1) := dk_44 (dk_at dksX7_match_0 5 rfl rfl)
theorem dX7_match_6 : decode cX7_match 6 = .ok (.invokevirtual 20, 3) := dk_182 0 20 (dk_at dksX7_match_0 6 rfl rfl)
theorem dX7_match_9 : decode cX7_match 9 = .ok (.aload_n 0, 1) := dk_42 (dk_at dksX7_match_0 9 rfl rfl)
theorem dX7_match_10 : decode cX7_match 10 = .ok (.invokevirtual 20, 3) := dk_182 0 20 (dk_at dksX7_match_0 10 rfl rfl)
theorem dX7_match_13 : decode cX7_match 13 = .ok (.if_icmp .ne 14, 3) := dk_160 0 14 (dk_at dksX7_match_0 13 rfl rfl)
theorem dX7_match_16 : decode cX7_match 16 = .ok (.aload_n 2, 1) := dk_44 (dk_at dksX7_match_0 16 rfl rfl)
theorem dX7_match_17 : decode cX7_match 17 = .ok (.invokevirtual 24, 3) := dk_182 0 24 (dk_at dksX7_match_0 17 rfl rfl)
theorem dX7_match_20 : decode cX7_match 20 = .ok (.aload_n 0, 1) := dk_42 (dk_at dksX7_match_0 20 rfl rfl)
theorem dX7_match_21 : decode cX7_match 21 = .ok (.invokevirtual 24, 3) := dk_182 0 24 (dk_at dksX7_match_0 21 rfl rfl)
theorem dX7_match_24 : decode cX7_match 24 = .ok (.if_icmp .eq 11, 3) := dk_159 0 11 (dk_at dksX7_match_1 0 rfl rfl)
theorem dX7_match_27 : decode cX7_match 27 = .ok (.aload_n 2, 1) := dk_44 (dk_at dksX7_match_1 3 rfl rfl)
theorem dX7_match_28 : decode cX7_match 28 = .ok (.astore_n 3, 1) := dk_78 (dk_at dksX7_match_1 4 rfl rfl)
theorem dX7_match_29 : decode cX7_match 29 = .ok (.aload_n 3, 1) := dk_45 (dk_at dksX7_match_1 5 rfl rfl)
theorem dX7_match_30 : decode cX7_match 30 = .ok (.checkcast 30, 3) := dk_192 0 30 (dk_at dksX7_match_1 6 rfl rfl)
theorem dX7_match_33 : decode cX7_match 33 = .ok (.astore 4, 2) := dk_58 4 (dk_at dksX7_match_1 9 rfl rfl)
theorem dX7_match_35 : decode cX7_match 35 = .ok (.return_, 1) := dk_177 (dk_at dksX7_match_1 11 rfl rfl)
abbrev cX7_fresh : ByteArray := prog_2_method_6_code
def yX7_fresh : MethodName := ⟨RX7, "fresh", "()LLevelScores$Score;"⟩
def dkwX7_fresh_0 : List UInt8 := [187, 0, 2, 89, 42, 182, 0, 20, 42, 182, 0, 24, 183, 0, 27, 176]
abbrev dktX7_fresh_0 : List UInt8 := dkwX7_fresh_0 ++ []
theorem dksX7_fresh_0 : cX7_fresh.data.toList.drop 0 = dktX7_fresh_0 := by decide +kernel
theorem dX7_fresh_0 : decode cX7_fresh 0 = .ok (.new 2, 3) := dk_187 0 2 (dk_at dksX7_fresh_0 0 rfl rfl)
theorem dX7_fresh_3 : decode cX7_fresh 3 = .ok (.dup, 1) := dk_89 (dk_at dksX7_fresh_0 3 rfl rfl)
theorem dX7_fresh_4 : decode cX7_fresh 4 = .ok (.aload_n 0, 1) := dk_42 (dk_at dksX7_fresh_0 4 rfl rfl)
theorem dX7_fresh_5 : decode cX7_fresh 5 = .ok (.invokevirtual 20, 3) := dk_182 0 20 (dk_at dksX7_fresh_0 5 rfl rfl)
theorem dX7_fresh_8 : decode cX7_fresh 8 = .ok (.aload_n 0, 1) := dk_42 (dk_at dksX7_fresh_0 8 rfl rfl)
theorem dX7_fresh_9 : decode cX7_fresh 9 = .ok (.invokevirtual 24, 3) := dk_182 0 24 (dk_at dksX7_fresh_0 9 rfl rfl)
theorem dX7_fresh_12 : decode cX7_fresh 12 = .ok (.invokespecial 27, 3) := dk_183 0 27 (dk_at dksX7_fresh_0 12 rfl rfl)
theorem dX7_fresh_15 : decode cX7_fresh 15 = .ok (.areturn, 1) := dk_176 (dk_at dksX7_fresh_0 15 rfl rfl)
theorem q65 : (Jvm.Cond.initialized "LevelScores$Bent") ∈ lw_all := lw_g (lw_at lw_m1 12 rfl) rfl
theorem q275 : (Jvm.Cond.instantiable "LevelScores$Bent" (3 : Nat)) ∈ lw_all := lw_g (lw_at lw_m1 222 rfl) rfl
theorem q277 : (Jvm.Cond.instanceMethod ({ cls := "LevelScores$Bent", name := "<init>", desc := "(II)V" } : Jvm.MethodName)) ∈ lw_all := lw_g (lw_at lw_m1 224 rfl) rfl
theorem q278 : (Jvm.Cond.code ({ cls := "LevelScores$Bent", name := "<init>", desc := "(II)V" } : Jvm.MethodName) prog_2_method_1_code (3 : Nat) (Option.none : Option Jvm.ClassFile.FieldType)) ∈ lw_all := lw_g (lw_at lw_m1 225 rfl) rfl
theorem q279 : (Jvm.Cond.methodLink "LevelScores$Bent" (1 : Nat) ({ cls := "LevelScores$Bent", name := "sum", desc := "([I[I)I" } : Jvm.MethodName)) ∈ lw_all := lw_g (lw_at lw_m1 226 rfl) rfl
theorem q280 : (Jvm.Cond.static ({ cls := "LevelScores$Bent", name := "sum", desc := "([I[I)I" } : Jvm.MethodName)) ∈ lw_all := lw_g (lw_at lw_m1 227 rfl) rfl
theorem q281 : (Jvm.Cond.code ({ cls := "LevelScores$Bent", name := "sum", desc := "([I[I)I" } : Jvm.MethodName) prog_2_method_2_code (2 : Nat) (Option.some Jvm.ClassFile.FieldType.int)) ∈ lw_all := lw_g (lw_at lw_m1 228 rfl) rfl
theorem q282 : (Jvm.Cond.methodLink "LevelScores$Bent" (7 : Nat) ({ cls := "LevelScores$Score", name := "<init>", desc := "(I)V" } : Jvm.MethodName)) ∈ lw_all := lw_g (lw_at lw_m1 229 rfl) rfl
theorem q283 : (Jvm.Cond.fieldLink "LevelScores$Bent" (13 : Nat) "LevelScores$Bent" "hardOnes" "[I") ∈ lw_all := lw_g (lw_at lw_m1 230 rfl) rfl
theorem q284 : (Jvm.Cond.fieldLink "LevelScores$Bent" (17 : Nat) "LevelScores$Bent" "softOnes" "[I") ∈ lw_all := lw_g (lw_at lw_m1 231 rfl) rfl
theorem q285 : (Jvm.Cond.laysFinal "LevelScores$Bent" "LevelScores$Bent" "hardOnes" "[I") ∈ lw_all := lw_g (lw_at lw_m1 232 rfl) rfl
theorem q286 : (Jvm.Cond.soleField "LevelScores$Bent" "hardOnes") ∈ lw_all := lw_g (lw_at lw_m1 233 rfl) rfl
theorem q287 : (Jvm.Cond.laysFinal "LevelScores$Bent" "LevelScores$Bent" "softOnes" "[I") ∈ lw_all := lw_g (lw_at lw_m1 234 rfl) rfl
theorem q288 : (Jvm.Cond.soleField "LevelScores$Bent" "softOnes") ∈ lw_all := lw_g (lw_at lw_m1 235 rfl) rfl
theorem q289 : (Jvm.Cond.laysFinal "LevelScores$Bent" "LevelScores$Score" "level" "[J") ∈ lw_all := lw_g (lw_at lw_m1 236 rfl) rfl
theorem q290 : (Jvm.Cond.superclass "LevelScores$Bent" "LevelScores$Score") ∈ lw_all := lw_g (lw_at lw_m1 237 rfl) rfl
theorem q358 : (Jvm.Cond.selects "LevelScores$Bent" ({ cls := "LevelScores$Score", name := "shape", desc := "()I" } : Jvm.MethodName) ({ cls := "LevelScores$Bent", name := "shape", desc := "()I" } : Jvm.MethodName)) ∈ lw_all := lw_g (lw_at lw_m2 65 rfl) rfl
theorem q359 : (Jvm.Cond.instanceMethod ({ cls := "LevelScores$Bent", name := "shape", desc := "()I" } : Jvm.MethodName)) ∈ lw_all := lw_g (lw_at lw_m2 66 rfl) rfl
theorem q360 : (Jvm.Cond.code ({ cls := "LevelScores$Bent", name := "shape", desc := "()I" } : Jvm.MethodName) prog_2_method_5_code (1 : Nat) (Option.some Jvm.ClassFile.FieldType.int)) ∈ lw_all := lw_g (lw_at lw_m2 67 rfl) rfl
theorem q374 : (Jvm.Cond.castable "LevelScores$Bent" "LevelScores$Shaped") ∈ lw_tbl := lw_at lw_m2 81 rfl
theorem q375 : (Jvm.Cond.selects "LevelScores$Bent" ({ cls := "LevelScores$Shaped", name := "hard", desc := "()I" } : Jvm.MethodName) ({ cls := "LevelScores$Bent", name := "hard", desc := "()I" } : Jvm.MethodName)) ∈ lw_all := lw_g (lw_at lw_m2 82 rfl) rfl
theorem q376 : (Jvm.Cond.unhidden "LevelScores$Bent" "hard" "()I") ∈ lw_tbl := lw_at lw_m2 83 rfl
theorem q377 : (Jvm.Cond.instanceMethod ({ cls := "LevelScores$Bent", name := "hard", desc := "()I" } : Jvm.MethodName)) ∈ lw_all := lw_g (lw_at lw_m2 84 rfl) rfl
theorem q378 : (Jvm.Cond.publicMethod ({ cls := "LevelScores$Bent", name := "hard", desc := "()I" } : Jvm.MethodName)) ∈ lw_tbl := lw_at lw_m2 85 rfl
theorem q379 : (Jvm.Cond.code ({ cls := "LevelScores$Bent", name := "hard", desc := "()I" } : Jvm.MethodName) prog_2_method_3_code (1 : Nat) (Option.some Jvm.ClassFile.FieldType.int)) ∈ lw_all := lw_g (lw_at lw_m2 86 rfl) rfl
theorem q399 : (Jvm.Cond.unhidden "LevelScores$Bent" "levels" "()I") ∈ lw_tbl := lw_at lw_m2 106 rfl
theorem q409 : (Jvm.Cond.selects "LevelScores$Bent" ({ cls := "LevelScores$Shaped", name := "soft", desc := "()I" } : Jvm.MethodName) ({ cls := "LevelScores$Bent", name := "soft", desc := "()I" } : Jvm.MethodName)) ∈ lw_all := lw_g (lw_at lw_m2 116 rfl) rfl
theorem q410 : (Jvm.Cond.unhidden "LevelScores$Bent" "soft" "()I") ∈ lw_tbl := lw_at lw_m2 117 rfl
theorem q411 : (Jvm.Cond.instanceMethod ({ cls := "LevelScores$Bent", name := "soft", desc := "()I" } : Jvm.MethodName)) ∈ lw_all := lw_g (lw_at lw_m2 118 rfl) rfl
theorem q412 : (Jvm.Cond.publicMethod ({ cls := "LevelScores$Bent", name := "soft", desc := "()I" } : Jvm.MethodName)) ∈ lw_tbl := lw_at lw_m2 119 rfl
theorem q413 : (Jvm.Cond.code ({ cls := "LevelScores$Bent", name := "soft", desc := "()I" } : Jvm.MethodName) prog_2_method_4_code (1 : Nat) (Option.some Jvm.ClassFile.FieldType.int)) ∈ lw_all := lw_g (lw_at lw_m2 120 rfl) rfl
theorem q439 : (Jvm.Cond.unhidden "LevelScores$Bent" "isHard" "(I)Z") ∈ lw_tbl := lw_at lw_m2 146 rfl
theorem q474 : (Jvm.Cond.selects "LevelScores$Bent" ({ cls := "LevelScores$Score", name := "match", desc := "(LLevelScores$Score;)V" } : Jvm.MethodName) ({ cls := "LevelScores$Bent", name := "match", desc := "(LLevelScores$Score;)V" } : Jvm.MethodName)) ∈ lw_all := lw_g (lw_at lw_m2 181 rfl) rfl
theorem q475 : (Jvm.Cond.instanceMethod ({ cls := "LevelScores$Bent", name := "match", desc := "(LLevelScores$Score;)V" } : Jvm.MethodName)) ∈ lw_all := lw_g (lw_at lw_m2 182 rfl) rfl
theorem q476 : (Jvm.Cond.code ({ cls := "LevelScores$Bent", name := "match", desc := "(LLevelScores$Score;)V" } : Jvm.MethodName) prog_2_method_7_code (5 : Nat) (Option.none : Option Jvm.ClassFile.FieldType)) ∈ lw_all := lw_g (lw_at lw_m2 183 rfl) rfl
theorem q477 : (Jvm.Cond.classLink "LevelScores$Bent" (2 : Nat) "LevelScores$Bent") ∈ lw_all := lw_g (lw_at lw_m2 184 rfl) rfl
theorem q478 : (Jvm.Cond.methodLink "LevelScores$Bent" (20 : Nat) ({ cls := "LevelScores$Bent", name := "hard", desc := "()I" } : Jvm.MethodName)) ∈ lw_all := lw_g (lw_at lw_m2 185 rfl) rfl
theorem q479 : (Jvm.Cond.methodLink "LevelScores$Bent" (24 : Nat) ({ cls := "LevelScores$Bent", name := "soft", desc := "()I" } : Jvm.MethodName)) ∈ lw_all := lw_g (lw_at lw_m2 186 rfl) rfl
theorem q480 : (Jvm.Cond.classLink "LevelScores$Bent" (30 : Nat) "LevelScores$Simple") ∈ lw_all := lw_g (lw_at lw_m2 187 rfl) rfl
theorem q498 : (Jvm.Cond.selects "LevelScores$Bent" ({ cls := "LevelScores$Score", name := "isLess", desc := "(LLevelScores$Score;)Z" } : Jvm.MethodName) ({ cls := "LevelScores$Score", name := "isLess", desc := "(LLevelScores$Score;)Z" } : Jvm.MethodName)) ∈ lw_all := lw_g (lw_at lw_m2 205 rfl) rfl
theorem q506 : (Jvm.Cond.selects "LevelScores$Bent" ({ cls := "LevelScores$Score", name := "differ", desc := "(LLevelScores$Score;)I" } : Jvm.MethodName) ({ cls := "LevelScores$Score", name := "differ", desc := "(LLevelScores$Score;)I" } : Jvm.MethodName)) ∈ lw_all := lw_g (lw_at lw_m2 213 rfl) rfl
theorem q514 : (Jvm.Cond.selects "LevelScores$Bent" ({ cls := "LevelScores$Score", name := "copy", desc := "()LLevelScores$Score;" } : Jvm.MethodName) ({ cls := "LevelScores$Score", name := "copy", desc := "()LLevelScores$Score;" } : Jvm.MethodName)) ∈ lw_all := lw_g (lw_at lw_m2 221 rfl) rfl
theorem q522 : (Jvm.Cond.selects "LevelScores$Bent" ({ cls := "LevelScores$Score", name := "fresh", desc := "()LLevelScores$Score;" } : Jvm.MethodName) ({ cls := "LevelScores$Bent", name := "fresh", desc := "()LLevelScores$Score;" } : Jvm.MethodName)) ∈ lw_all := lw_g (lw_at lw_m2 229 rfl) rfl
theorem q523 : (Jvm.Cond.instanceMethod ({ cls := "LevelScores$Bent", name := "fresh", desc := "()LLevelScores$Score;" } : Jvm.MethodName)) ∈ lw_all := lw_g (lw_at lw_m2 230 rfl) rfl
theorem q524 : (Jvm.Cond.code ({ cls := "LevelScores$Bent", name := "fresh", desc := "()LLevelScores$Score;" } : Jvm.MethodName) prog_2_method_6_code (1 : Nat) (Option.some (Jvm.ClassFile.FieldType.object "LevelScores$Score"))) ∈ lw_all := lw_g (lw_at lw_m2 231 rfl) rfl
theorem q525 : (Jvm.Cond.methodLink "LevelScores$Bent" (27 : Nat) ({ cls := "LevelScores$Bent", name := "<init>", desc := "(II)V" } : Jvm.MethodName)) ∈ lw_all := lw_g (lw_at lw_m2 232 rfl) rfl
theorem q1136 : (Jvm.Cond.selects "LevelScores$Bent" ({ cls := "LevelScores$Bent", name := "hard", desc := "()I" } : Jvm.MethodName) ({ cls := "LevelScores$Bent", name := "hard", desc := "()I" } : Jvm.MethodName)) ∈ lw_all := lw_g (lw_at lw_m5 123 rfl) rfl
theorem q1137 : (Jvm.Cond.selects "LevelScores$Bent" ({ cls := "LevelScores$Bent", name := "soft", desc := "()I" } : Jvm.MethodName) ({ cls := "LevelScores$Bent", name := "soft", desc := "()I" } : Jvm.MethodName)) ∈ lw_all := lw_g (lw_at lw_m5 124 rfl) rfl
theorem q1150 : (Jvm.Cond.castable "LevelScores$Bent" "java/lang/Object") ∈ lw_tbl := lw_at lw_m5 137 rfl
theorem q1163 : (Jvm.Cond.castable "LevelScores$Bent" "LevelScores$Score") ∈ lw_tbl := lw_at lw_m5 150 rfl
theorem in_X7 : ∀ w ∈ wsX70, w ∈ lw_all := lw_in wsX70 [289, 285, 287] (by decide +kernel) (by decide +kernel)

/-! LevelScores$Shaped -/
set_option maxRecDepth 100000
def RX8 : String := "LevelScores$Shaped"
abbrev cX8_levels : ByteArray := prog_4_method_3_code
def yX8_levels : MethodName := ⟨RX8, "levels", "()I"⟩
def dkwX8_levels_0 : List UInt8 := [42, 185, 0, 1, 1, 0, 42, 185, 0, 7, 1, 0, 96, 172]
abbrev dktX8_levels_0 : List UInt8 := dkwX8_levels_0 ++ []
theorem dksX8_levels_0 : cX8_levels.data.toList.drop 0 = dktX8_levels_0 := by decide +kernel
theorem dX8_levels_0 : decode cX8_levels 0 = .ok (.aload_n 0, 1) := dk_42 (dk_at dksX8_levels_0 0 rfl rfl)
theorem dX8_levels_1 : decode cX8_levels 1 = .ok (.invokeinterface 1 1, 5) := by decide +kernel
theorem dX8_levels_6 : decode cX8_levels 6 = .ok (.aload_n 0, 1) := dk_42 (dk_at dksX8_levels_0 6 rfl rfl)
theorem dX8_levels_7 : decode cX8_levels 7 = .ok (.invokeinterface 7 1, 5) := by decide +kernel
theorem dX8_levels_12 : decode cX8_levels 12 = .ok (.iadd, 1) := dk_96 (dk_at dksX8_levels_0 12 rfl rfl)
theorem dX8_levels_13 : decode cX8_levels 13 = .ok (.ireturn, 1) := dk_172 (dk_at dksX8_levels_0 13 rfl rfl)
abbrev cX8_isHard : ByteArray := prog_4_method_4_code
def yX8_isHard : MethodName := ⟨RX8, "isHard", "(I)Z"⟩
def dkwX8_isHard_0 : List UInt8 := [27, 42, 185, 0, 1, 1, 0, 162, 0, 7, 4, 167, 0, 4, 3, 172]
abbrev dktX8_isHard_0 : List UInt8 := dkwX8_isHard_0 ++ []
theorem dksX8_isHard_0 : cX8_isHard.data.toList.drop 0 = dktX8_isHard_0 := by decide +kernel
theorem dX8_isHard_0 : decode cX8_isHard 0 = .ok (.iload_n 1, 1) := dk_27 (dk_at dksX8_isHard_0 0 rfl rfl)
theorem dX8_isHard_1 : decode cX8_isHard 1 = .ok (.aload_n 0, 1) := dk_42 (dk_at dksX8_isHard_0 1 rfl rfl)
theorem dX8_isHard_2 : decode cX8_isHard 2 = .ok (.invokeinterface 1 1, 5) := by decide +kernel
theorem dX8_isHard_7 : decode cX8_isHard 7 = .ok (.if_icmp .ge 7, 3) := dk_162 0 7 (dk_at dksX8_isHard_0 7 rfl rfl)
theorem dX8_isHard_10 : decode cX8_isHard 10 = .ok (.iconst 1, 1) := dk_4 (dk_at dksX8_isHard_0 10 rfl rfl)
theorem dX8_isHard_11 : decode cX8_isHard 11 = .ok (.goto 4, 3) := dk_167 0 4 (dk_at dksX8_isHard_0 11 rfl rfl)
theorem dX8_isHard_14 : decode cX8_isHard 14 = .ok (.iconst 0, 1) := dk_3 (dk_at dksX8_isHard_0 14 rfl rfl)
theorem dX8_isHard_15 : decode cX8_isHard 15 = .ok (.ireturn, 1) := dk_172 (dk_at dksX8_isHard_0 15 rfl rfl)
theorem q372 : (Jvm.Cond.interfaceMethod "LevelScores$Shaped" "LevelScores$Shaped" "hard" "()I") ∈ lw_tbl := lw_at lw_m2 79 rfl
theorem q373 : (Jvm.Cond.declares ({ cls := "LevelScores$Shaped", name := "hard", desc := "()I" } : Jvm.MethodName)) ∈ lw_tbl := lw_at lw_m2 80 rfl
theorem q397 : (Jvm.Cond.interfaceMethod "LevelScores$Shaped" "LevelScores$Shaped" "levels" "()I") ∈ lw_tbl := lw_at lw_m2 104 rfl
theorem q398 : (Jvm.Cond.declares ({ cls := "LevelScores$Shaped", name := "levels", desc := "()I" } : Jvm.MethodName)) ∈ lw_tbl := lw_at lw_m2 105 rfl
theorem q400 : (Jvm.Cond.instanceMethod ({ cls := "LevelScores$Shaped", name := "levels", desc := "()I" } : Jvm.MethodName)) ∈ lw_all := lw_g (lw_at lw_m2 107 rfl) rfl
theorem q401 : (Jvm.Cond.publicMethod ({ cls := "LevelScores$Shaped", name := "levels", desc := "()I" } : Jvm.MethodName)) ∈ lw_tbl := lw_at lw_m2 108 rfl
theorem q402 : (Jvm.Cond.code ({ cls := "LevelScores$Shaped", name := "levels", desc := "()I" } : Jvm.MethodName) prog_4_method_3_code (1 : Nat) (Option.some Jvm.ClassFile.FieldType.int)) ∈ lw_all := lw_g (lw_at lw_m2 109 rfl) rfl
theorem q403 : (Jvm.Cond.interfaceEntry "LevelScores$Shaped" (1 : Nat)) ∈ lw_tbl := lw_at lw_m2 110 rfl
theorem q404 : (Jvm.Cond.methodLink "LevelScores$Shaped" (1 : Nat) ({ cls := "LevelScores$Shaped", name := "hard", desc := "()I" } : Jvm.MethodName)) ∈ lw_all := lw_g (lw_at lw_m2 111 rfl) rfl
theorem q405 : (Jvm.Cond.interfaceEntry "LevelScores$Shaped" (7 : Nat)) ∈ lw_tbl := lw_at lw_m2 112 rfl
theorem q406 : (Jvm.Cond.methodLink "LevelScores$Shaped" (7 : Nat) ({ cls := "LevelScores$Shaped", name := "soft", desc := "()I" } : Jvm.MethodName)) ∈ lw_all := lw_g (lw_at lw_m2 113 rfl) rfl
theorem q407 : (Jvm.Cond.interfaceMethod "LevelScores$Shaped" "LevelScores$Shaped" "soft" "()I") ∈ lw_tbl := lw_at lw_m2 114 rfl
theorem q408 : (Jvm.Cond.declares ({ cls := "LevelScores$Shaped", name := "soft", desc := "()I" } : Jvm.MethodName)) ∈ lw_tbl := lw_at lw_m2 115 rfl
theorem q437 : (Jvm.Cond.interfaceMethod "LevelScores$Shaped" "LevelScores$Shaped" "isHard" "(I)Z") ∈ lw_tbl := lw_at lw_m2 144 rfl
theorem q438 : (Jvm.Cond.declares ({ cls := "LevelScores$Shaped", name := "isHard", desc := "(I)Z" } : Jvm.MethodName)) ∈ lw_tbl := lw_at lw_m2 145 rfl
theorem q440 : (Jvm.Cond.instanceMethod ({ cls := "LevelScores$Shaped", name := "isHard", desc := "(I)Z" } : Jvm.MethodName)) ∈ lw_all := lw_g (lw_at lw_m2 147 rfl) rfl
theorem q441 : (Jvm.Cond.publicMethod ({ cls := "LevelScores$Shaped", name := "isHard", desc := "(I)Z" } : Jvm.MethodName)) ∈ lw_tbl := lw_at lw_m2 148 rfl
theorem q442 : (Jvm.Cond.code ({ cls := "LevelScores$Shaped", name := "isHard", desc := "(I)Z" } : Jvm.MethodName) prog_4_method_4_code (2 : Nat) (Option.some Jvm.ClassFile.FieldType.boolean)) ∈ lw_all := lw_g (lw_at lw_m2 149 rfl) rfl

theorem q87 : (Jvm.Cond.arrayOver (Jvm.ClassFile.FieldType.object "LevelScores$Score")) ∈ lw_tbl := lw_at lw_m1 34 rfl
set_option maxRecDepth 100000
theorem q102 : (Jvm.Cond.arrayClass Jvm.ClassFile.FieldType.byte) ∈ lw_all := lw_g (lw_at lw_m1 49 rfl) rfl
theorem q103 : (Jvm.Cond.arrayClass Jvm.ClassFile.FieldType.long) ∈ lw_all := lw_g (lw_at lw_m1 50 rfl) rfl
theorem q155 : (Jvm.Cond.arrayClass Jvm.ClassFile.FieldType.int) ∈ lw_all := lw_g (lw_at lw_m1 102 rfl) rfl

theorem q71 : (Jvm.Cond.initialized "java/lang/System") ∈ lw_all := lw_g (lw_at lw_m1 18 rfl) rfl
set_option maxRecDepth 100000
theorem q539 : (Jvm.Cond.static ({ cls := "java/lang/System", name := "arraycopy", desc := "(Ljava/lang/Object;ILjava/lang/Object;II)V" } : Jvm.MethodName)) ∈ lw_all := lw_g (lw_at lw_m3 6 rfl) rfl
theorem q540 : (Jvm.Cond.native ({ cls := "java/lang/System", name := "arraycopy", desc := "(Ljava/lang/Object;ILjava/lang/Object;II)V" } : Jvm.MethodName)) ∈ lw_all := lw_g (lw_at lw_m3 7 rfl) rfl
