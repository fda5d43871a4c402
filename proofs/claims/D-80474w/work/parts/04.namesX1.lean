/-! LevelScores -/
set_option maxRecDepth 100000
def RX1 : String := "LevelScores"
def TX1 : u_T := fun k => match k with
  | 0 => ("LevelScores", "score", "[LLevelScores$Score;", true)
  | 1 => ("LevelScores", "scores", "I", false)
  | 2 => ("LevelScores", "tape", "[B", true)
  | 3 => ("LevelScores", "taped", "I", false)
  | 4 => ("LevelScores", "out", "[B", true)
  | 5 => ("LevelScores", "written", "I", false)
  | 6 => ("LevelScores", "plan", "LLevelScores$Score;", false)
  | 7 => ("LevelScores", "weight", "[LLevelScores$Score;", true)
  | 8 => ("LevelScores", "count", "[I", true)
  | 9 => ("LevelScores", "rules", "I", false)
  | 10 => ("LevelScores", "best", "[LLevelScores$Score;", true)
  | 11 => ("LevelScores", "bests", "I", false)
  | 12 => ("LevelScores", "at", "I", false)
  | 13 => ("LevelScores", "wrong", "I", false)
  | 14 => ("LevelScores", "high", "J", false)
  | 15 => ("LevelScores", "low", "J", false)
  | _ => ("LevelScores", "read", "[J", true)
def tyX1 : Nat → FieldType := fun k => match k with
  | 0 => .array (.object "LevelScores$Score")
  | 1 => .int
  | 2 => .array .byte
  | 3 => .int
  | 4 => .array .byte
  | 5 => .int
  | 6 => .object "LevelScores$Score"
  | 7 => .array (.object "LevelScores$Score")
  | 8 => .array .int
  | 9 => .int
  | 10 => .array (.object "LevelScores$Score")
  | 11 => .int
  | 12 => .int
  | 13 => .int
  | 14 => .long
  | 15 => .long
  | _ => .array .long
abbrev wsX10 : List Cond := u_ws RX1 TX1 17
set_option maxRecDepth 100000 in
theorem nmX1 : ∀ a, a < 17 → ∀ b, b < 17 → a ≠ b → (TX1 a).2.1 ≠ (TX1 b).2.1 := by decide +kernel
set_option maxRecDepth 100000 in
theorem tyX1_ok : ∀ k, k < 17 → parseFieldDescriptor (TX1 k).2.2.1 = some (tyX1 k) := by decide +kernel
abbrev cX1_init : ByteArray := prog_1_method_1_code
def yX1_init : MethodName := ⟨RX1, "<init>", "()V"⟩
def dkwX1_init_3 : List UInt8 := [16, 12, 188, 11, 181, 0, 39, 177]
abbrev dktX1_init_3 : List UInt8 := dkwX1_init_3 ++ []
def dkwX1_init_2 : List UInt8 := [189, 0, 9, 181, 0, 29, 42, 16, 12, 188, 10, 181, 0, 32, 42, 8, 189, 0, 9, 181, 0, 36, 42]
abbrev dktX1_init_2 : List UInt8 := dkwX1_init_2 ++ dktX1_init_3
def dkwX1_init_1 : List UInt8 := [17, 1, 44, 188, 8, 181, 0, 19, 42, 187, 0, 22, 89, 183, 0, 24, 181, 0, 25, 42, 16, 12]
abbrev dktX1_init_1 : List UInt8 := dkwX1_init_1 ++ dktX1_init_2
def dkwX1_init_0 : List UInt8 := [42, 183, 0, 1, 42, 16, 60, 189, 0, 9, 181, 0, 11, 42, 17, 1, 44, 188, 8, 181, 0, 15, 42]
abbrev dktX1_init_0 : List UInt8 := dkwX1_init_0 ++ dktX1_init_1
theorem dksX1_init_0 : cX1_init.data.toList.drop 0 = dktX1_init_0 := by decide +kernel
theorem dksX1_init_1 : cX1_init.data.toList.drop 23 = dktX1_init_1 := dk_seg dksX1_init_0 23 rfl rfl
theorem dksX1_init_2 : cX1_init.data.toList.drop 45 = dktX1_init_2 := dk_seg dksX1_init_1 22 rfl rfl
theorem dksX1_init_3 : cX1_init.data.toList.drop 68 = dktX1_init_3 := dk_seg dksX1_init_2 23 rfl rfl
theorem dX1_init_0 : decode cX1_init 0 = .ok (.aload_n 0, 1) := dk_42 (dk_at dksX1_init_0 0 rfl rfl)
theorem dX1_init_1 : decode cX1_init 1 = .ok (.invokespecial 1, 3) := dk_183 0 1 (dk_at dksX1_init_0 1 rfl rfl)
theorem dX1_init_4 : decode cX1_init 4 = .ok (.aload_n 0, 1) := dk_42 (dk_at dksX1_init_0 4 rfl rfl)
theorem dX1_init_5 : decode cX1_init 5 = .ok (.bipush 60, 2) := dk_16 60 (dk_at dksX1_init_0 5 rfl rfl)
theorem dX1_init_7 : decode cX1_init 7 = .ok (.anewarray 9, 3) := dk_189 0 9 (dk_at dksX1_init_0 7 rfl rfl)
theorem dX1_init_10 : decode cX1_init 10 = .ok (.putfield 11, 3) := dk_181 0 11 (dk_at dksX1_init_0 10 rfl rfl)
theorem dX1_init_13 : decode cX1_init 13 = .ok (.aload_n 0, 1) := dk_42 (dk_at dksX1_init_0 13 rfl rfl)
theorem dX1_init_14 : decode cX1_init 14 = .ok (.sipush 300, 3) := dk_17 1 44 (dk_at dksX1_init_0 14 rfl rfl)
theorem dX1_init_17 : decode cX1_init 17 = .ok (.newarray .byte, 2) := dk_188_8 (dk_at dksX1_init_0 17 rfl rfl)
theorem dX1_init_19 : decode cX1_init 19 = .ok (.putfield 15, 3) := dk_181 0 15 (dk_at dksX1_init_0 19 rfl rfl)
theorem dX1_init_22 : decode cX1_init 22 = .ok (.aload_n 0, 1) := dk_42 (dk_at dksX1_init_0 22 rfl rfl)
theorem dX1_init_23 : decode cX1_init 23 = .ok (.sipush 300, 3) := dk_17 1 44 (dk_at dksX1_init_1 0 rfl rfl)
theorem dX1_init_26 : decode cX1_init 26 = .ok (.newarray .byte, 2) := dk_188_8 (dk_at dksX1_init_1 3 rfl rfl)
theorem dX1_init_28 : decode cX1_init 28 = .ok (.putfield 19, 3) := dk_181 0 19 (dk_at dksX1_init_1 5 rfl rfl)
theorem dX1_init_31 : decode cX1_init 31 = .ok (.aload_n 0, 1) := dk_42 (dk_at dksX1_init_1 8 rfl rfl)
theorem dX1_init_32 : decode cX1_init 32 = .ok (.new 22, 3) := dk_187 0 22 (dk_at dksX1_init_1 9 rfl rfl)
theorem dX1_init_35 : decode cX1_init 35 = .ok (.dup, 1) := dk_89 (dk_at dksX1_init_1 12 rfl rfl)
theorem dX1_init_36 : decode cX1_init 36 = .ok (.invokespecial 24, 3) := dk_183 0 24 (dk_at dksX1_init_1 13 rfl rfl)
theorem dX1_init_39 : decode cX1_init 39 = .ok (.putfield 25, 3) := dk_181 0 25 (dk_at dksX1_init_1 16 rfl rfl)
theorem dX1_init_42 : decode cX1_init 42 = .ok (.aload_n 0, 1) := dk_42 (dk_at dksX1_init_1 19 rfl rfl)
theorem dX1_init_43 : decode cX1_init 43 = .ok (.bipush 12, 2) := dk_16 12 (dk_at dksX1_init_1 20 rfl rfl)
theorem dX1_init_45 : decode cX1_init 45 = .ok (.anewarray 9, 3) := dk_189 0 9 (dk_at dksX1_init_2 0 rfl rfl)
theorem dX1_init_48 : decode cX1_init 48 = .ok (.putfield 29, 3) := dk_181 0 29 (dk_at dksX1_init_2 3 rfl rfl)
theorem dX1_init_51 : decode cX1_init 51 = .ok (.aload_n 0, 1) := dk_42 (dk_at dksX1_init_2 6 rfl rfl)
theorem dX1_init_52 : decode cX1_init 52 = .ok (.bipush 12, 2) := dk_16 12 (dk_at dksX1_init_2 7 rfl rfl)
theorem dX1_init_54 : decode cX1_init 54 = .ok (.newarray .int, 2) := dk_188_10 (dk_at dksX1_init_2 9 rfl rfl)
theorem dX1_init_56 : decode cX1_init 56 = .ok (.putfield 32, 3) := dk_181 0 32 (dk_at dksX1_init_2 11 rfl rfl)
theorem dX1_init_59 : decode cX1_init 59 = .ok (.aload_n 0, 1) := dk_42 (dk_at dksX1_init_2 14 rfl rfl)
theorem dX1_init_60 : decode cX1_init 60 = .ok (.iconst 5, 1) := dk_8 (dk_at dksX1_init_2 15 rfl rfl)
theorem dX1_init_61 : decode cX1_init 61 = .ok (.anewarray 9, 3) := dk_189 0 9 (dk_at dksX1_init_2 16 rfl rfl)
theorem dX1_init_64 : decode cX1_init 64 = .ok (.putfield 36, 3) := dk_181 0 36 (dk_at dksX1_init_2 19 rfl rfl)
theorem dX1_init_67 : decode cX1_init 67 = .ok (.aload_n 0, 1) := dk_42 (dk_at dksX1_init_2 22 rfl rfl)
theorem dX1_init_68 : decode cX1_init 68 = .ok (.bipush 12, 2) := dk_16 12 (dk_at dksX1_init_3 0 rfl rfl)
theorem dX1_init_70 : decode cX1_init 70 = .ok (.newarray .long, 2) := dk_188_11 (dk_at dksX1_init_3 2 rfl rfl)
theorem dX1_init_72 : decode cX1_init 72 = .ok (.putfield 39, 3) := dk_181 0 39 (dk_at dksX1_init_3 4 rfl rfl)
theorem dX1_init_75 : decode cX1_init 75 = .ok (.return_, 1) := dk_177 (dk_at dksX1_init_3 7 rfl rfl)
abbrev cX1_make : ByteArray := prog_1_method_7_code
def yX1_make : MethodName := ⟨RX1, "make", "(III)I"⟩
def dkwX1_make_2 : List UInt8 := [16, 252, 172, 42, 27, 28, 29, 184, 0, 66, 182, 0, 70, 172, 58, 4, 16, 242, 172]
abbrev dktX1_make_2 : List UInt8 := dkwX1_make_2 ++ []
def dkwX1_make_1 : List UInt8 := [163, 0, 11, 28, 154, 0, 10, 29, 154, 0, 6, 16, 253, 172, 42, 180, 0, 47, 16, 60, 160, 0, 6]
abbrev dktX1_make_1 : List UInt8 := dkwX1_make_1 ++ dktX1_make_2
def dkwX1_make_0 : List UInt8 := [27, 3, 6, 184, 0, 51, 153, 0, 28, 27, 6, 160, 0, 26, 28, 16, 6, 163, 0, 17, 29, 16, 6]
abbrev dktX1_make_0 : List UInt8 := dkwX1_make_0 ++ dktX1_make_1
theorem dksX1_make_0 : cX1_make.data.toList.drop 0 = dktX1_make_0 := by decide +kernel
theorem dksX1_make_1 : cX1_make.data.toList.drop 23 = dktX1_make_1 := dk_seg dksX1_make_0 23 rfl rfl
theorem dksX1_make_2 : cX1_make.data.toList.drop 46 = dktX1_make_2 := dk_seg dksX1_make_1 23 rfl rfl
theorem dX1_make_0 : decode cX1_make 0 = .ok (.iload_n 1, 1) := dk_27 (dk_at dksX1_make_0 0 rfl rfl)
theorem dX1_make_1 : decode cX1_make 1 = .ok (.iconst 0, 1) := dk_3 (dk_at dksX1_make_0 1 rfl rfl)
theorem dX1_make_2 : decode cX1_make 2 = .ok (.iconst 3, 1) := dk_6 (dk_at dksX1_make_0 2 rfl rfl)
theorem dX1_make_3 : decode cX1_make 3 = .ok (.invokestatic 51, 3) := dk_184 0 51 (dk_at dksX1_make_0 3 rfl rfl)
theorem dX1_make_6 : decode cX1_make 6 = .ok (.ifCond .eq 28, 3) := dk_153 0 28 (dk_at dksX1_make_0 6 rfl rfl)
theorem dX1_make_9 : decode cX1_make 9 = .ok (.iload_n 1, 1) := dk_27 (dk_at dksX1_make_0 9 rfl rfl)
theorem dX1_make_10 : decode cX1_make 10 = .ok (.iconst 3, 1) := dk_6 (dk_at dksX1_make_0 10 rfl rfl)
theorem dX1_make_11 : decode cX1_make 11 = .ok (.if_icmp .ne 26, 3) := dk_160 0 26 (dk_at dksX1_make_0 11 rfl rfl)
theorem dX1_make_14 : decode cX1_make 14 = .ok (.iload_n 2, 1) := dk_28 (dk_at dksX1_make_0 14 rfl rfl)
theorem dX1_make_15 : decode cX1_make 15 = .ok (.bipush 6, 2) := dk_16 6 (dk_at dksX1_make_0 15 rfl rfl)
theorem dX1_make_17 : decode cX1_make 17 = .ok (.if_icmp .gt 17, 3) := dk_163 0 17 (dk_at dksX1_make_0 17 rfl rfl)
theorem dX1_make_20 : decode cX1_make 20 = .ok (.iload_n 3, 1) := dk_29 (dk_at dksX1_make_0 20 rfl rfl)
theorem dX1_make_21 : decode cX1_make 21 = .ok (.bipush 6, 2) := dk_16 6 (dk_at dksX1_make_0 21 rfl rfl)
theorem dX1_make_23 : decode cX1_make 23 = .ok (.if_icmp .gt 11, 3) := dk_163 0 11 (dk_at dksX1_make_1 0 rfl rfl)
theorem dX1_make_26 : decode cX1_make 26 = .ok (.iload_n 2, 1) := dk_28 (dk_at dksX1_make_1 3 rfl rfl)
theorem dX1_make_27 : decode cX1_make 27 = .ok (.ifCond .ne 10, 3) := dk_154 0 10 (dk_at dksX1_make_1 4 rfl rfl)
theorem dX1_make_30 : decode cX1_make 30 = .ok (.iload_n 3, 1) := dk_29 (dk_at dksX1_make_1 7 rfl rfl)
theorem dX1_make_31 : decode cX1_make 31 = .ok (.ifCond .ne 6, 3) := dk_154 0 6 (dk_at dksX1_make_1 8 rfl rfl)
theorem dX1_make_34 : decode cX1_make 34 = .ok (.bipush (-3), 2) := dk_16 253 (dk_at dksX1_make_1 11 rfl rfl)
theorem dX1_make_36 : decode cX1_make 36 = .ok (.ireturn, 1) := dk_172 (dk_at dksX1_make_1 13 rfl rfl)
theorem dX1_make_37 : decode cX1_make 37 = .ok (.aload_n 0, 1) := dk_42 (dk_at dksX1_make_1 14 rfl rfl)
theorem dX1_make_38 : decode cX1_make 38 = .ok (.getfield 47, 3) := dk_180 0 47 (dk_at dksX1_make_1 15 rfl rfl)
theorem dX1_make_41 : decode cX1_make 41 = .ok (.bipush 60, 2) := dk_16 60 (dk_at dksX1_make_1 18 rfl rfl)
theorem dX1_make_43 : decode cX1_make 43 = .ok (.if_icmp .ne 6, 3) := dk_160 0 6 (dk_at dksX1_make_1 20 rfl rfl)
theorem dX1_make_46 : decode cX1_make 46 = .ok (.bipush (-4), 2) := dk_16 252 (dk_at dksX1_make_2 0 rfl rfl)
theorem dX1_make_48 : decode cX1_make 48 = .ok (.ireturn, 1) := dk_172 (dk_at dksX1_make_2 2 rfl rfl)
theorem dX1_make_49 : decode cX1_make 49 = .ok (.aload_n 0, 1) := dk_42 (dk_at dksX1_make_2 3 rfl rfl)
theorem dX1_make_50 : decode cX1_make 50 = .ok (.iload_n 1, 1) := dk_27 (dk_at dksX1_make_2 4 rfl rfl)
theorem dX1_make_51 : decode cX1_make 51 = .ok (.iload_n 2, 1) := dk_28 (dk_at dksX1_make_2 5 rfl rfl)
theorem dX1_make_52 : decode cX1_make 52 = .ok (.iload_n 3, 1) := dk_29 (dk_at dksX1_make_2 6 rfl rfl)
theorem dX1_make_53 : decode cX1_make 53 = .ok (.invokestatic 66, 3) := dk_184 0 66 (dk_at dksX1_make_2 7 rfl rfl)
theorem dX1_make_56 : decode cX1_make 56 = .ok (.invokevirtual 70, 3) := dk_182 0 70 (dk_at dksX1_make_2 10 rfl rfl)
theorem dX1_make_59 : decode cX1_make 59 = .ok (.ireturn, 1) := dk_172 (dk_at dksX1_make_2 13 rfl rfl)
theorem dX1_make_60 : decode cX1_make 60 = .ok (.astore 4, 2) := dk_58 4 (dk_at dksX1_make_2 14 rfl rfl)
theorem dX1_make_62 : decode cX1_make 62 = .ok (.bipush (-14), 2) := dk_16 242 (dk_at dksX1_make_2 16 rfl rfl)
theorem dX1_make_64 : decode cX1_make 64 = .ok (.ireturn, 1) := dk_172 (dk_at dksX1_make_2 18 rfl rfl)
abbrev cX1_is : ByteArray := prog_1_method_2_code
def yX1_is : MethodName := ⟨RX1, "is", "(III)Z"⟩
def dkwX1_is_0 : List UInt8 := [26, 27, 161, 0, 12, 26, 28, 163, 0, 7, 4, 167, 0, 4, 3, 172]
abbrev dktX1_is_0 : List UInt8 := dkwX1_is_0 ++ []
theorem dksX1_is_0 : cX1_is.data.toList.drop 0 = dktX1_is_0 := by decide +kernel
theorem dX1_is_0 : decode cX1_is 0 = .ok (.iload_n 0, 1) := dk_26 (dk_at dksX1_is_0 0 rfl rfl)
theorem dX1_is_1 : decode cX1_is 1 = .ok (.iload_n 1, 1) := dk_27 (dk_at dksX1_is_0 1 rfl rfl)
theorem dX1_is_2 : decode cX1_is 2 = .ok (.if_icmp .lt 12, 3) := dk_161 0 12 (dk_at dksX1_is_0 2 rfl rfl)
theorem dX1_is_5 : decode cX1_is 5 = .ok (.iload_n 0, 1) := dk_26 (dk_at dksX1_is_0 5 rfl rfl)
theorem dX1_is_6 : decode cX1_is 6 = .ok (.iload_n 2, 1) := dk_28 (dk_at dksX1_is_0 6 rfl rfl)
theorem dX1_is_7 : decode cX1_is 7 = .ok (.if_icmp .gt 7, 3) := dk_163 0 7 (dk_at dksX1_is_0 7 rfl rfl)
theorem dX1_is_10 : decode cX1_is 10 = .ok (.iconst 1, 1) := dk_4 (dk_at dksX1_is_0 10 rfl rfl)
theorem dX1_is_11 : decode cX1_is 11 = .ok (.goto 4, 3) := dk_167 0 4 (dk_at dksX1_is_0 11 rfl rfl)
theorem dX1_is_14 : decode cX1_is 14 = .ok (.iconst 0, 1) := dk_3 (dk_at dksX1_is_0 14 rfl rfl)
theorem dX1_is_15 : decode cX1_is 15 = .ok (.ireturn, 1) := dk_172 (dk_at dksX1_is_0 15 rfl rfl)
abbrev cX1_made : ByteArray := prog_1_method_6_code
def yX1_made : MethodName := ⟨RX1, "made", "(III)LLevelScores$Score;"⟩
def dkwX1_made_3 : List UInt8 := [187, 0, 61, 89, 27, 28, 183, 0, 63, 176]
abbrev dktX1_made_3 : List UInt8 := dkwX1_made_3 ++ []
def dkwX1_made_2 : List UInt8 := [187, 0, 22, 89, 183, 0, 24, 176, 187, 0, 55, 89, 183, 0, 57, 176, 187, 0, 58, 89, 183, 0, 60, 176]
abbrev dktX1_made_2 : List UInt8 := dkwX1_made_2 ++ dktX1_made_3
def dkwX1_made_1 : List UInt8 := [170, 0, 0, 0, 0, 0, 51, 0, 0, 0, 0, 0, 0, 0, 2, 0, 0, 0, 27, 0, 0, 0, 35, 0, 0, 0, 43]
abbrev dktX1_made_1 : List UInt8 := dkwX1_made_1 ++ dktX1_made_2
def dkwX1_made_0 : List UInt8 := [26]
abbrev dktX1_made_0 : List UInt8 := dkwX1_made_0 ++ dktX1_made_1
theorem dksX1_made_0 : cX1_made.data.toList.drop 0 = dktX1_made_0 := by decide +kernel
theorem dksX1_made_1 : cX1_made.data.toList.drop 1 = dktX1_made_1 := dk_seg dksX1_made_0 1 rfl rfl
theorem dksX1_made_2 : cX1_made.data.toList.drop 28 = dktX1_made_2 := dk_seg dksX1_made_1 27 rfl rfl
theorem dksX1_made_3 : cX1_made.data.toList.drop 52 = dktX1_made_3 := dk_seg dksX1_made_2 24 rfl rfl
theorem dX1_made_0 : decode cX1_made 0 = .ok (.iload_n 0, 1) := dk_26 (dk_at dksX1_made_0 0 rfl rfl)
theorem dX1_made_1 : decode cX1_made 1 = .ok (.tableswitch 51 0 2 #[27, 35, 43], 27) := by decide +kernel
theorem dX1_made_28 : decode cX1_made 28 = .ok (.new 22, 3) := dk_187 0 22 (dk_at dksX1_made_2 0 rfl rfl)
theorem dX1_made_31 : decode cX1_made 31 = .ok (.dup, 1) := dk_89 (dk_at dksX1_made_2 3 rfl rfl)
theorem dX1_made_32 : decode cX1_made 32 = .ok (.invokespecial 24, 3) := dk_183 0 24 (dk_at dksX1_made_2 4 rfl rfl)
theorem dX1_made_35 : decode cX1_made 35 = .ok (.areturn, 1) := dk_176 (dk_at dksX1_made_2 7 rfl rfl)
theorem dX1_made_36 : decode cX1_made 36 = .ok (.new 55, 3) := dk_187 0 55 (dk_at dksX1_made_2 8 rfl rfl)
theorem dX1_made_39 : decode cX1_made 39 = .ok (.dup, 1) := dk_89 (dk_at dksX1_made_2 11 rfl rfl)
theorem dX1_made_40 : decode cX1_made 40 = .ok (.invokespecial 57, 3) := dk_183 0 57 (dk_at dksX1_made_2 12 rfl rfl)
theorem dX1_made_43 : decode cX1_made 43 = .ok (.areturn, 1) := dk_176 (dk_at dksX1_made_2 15 rfl rfl)
theorem dX1_made_44 : decode cX1_made 44 = .ok (.new 58, 3) := dk_187 0 58 (dk_at dksX1_made_2 16 rfl rfl)
theorem dX1_made_47 : decode cX1_made 47 = .ok (.dup, 1) := dk_89 (dk_at dksX1_made_2 19 rfl rfl)
theorem dX1_made_48 : decode cX1_made 48 = .ok (.invokespecial 60, 3) := dk_183 0 60 (dk_at dksX1_made_2 20 rfl rfl)
theorem dX1_made_51 : decode cX1_made 51 = .ok (.areturn, 1) := dk_176 (dk_at dksX1_made_2 23 rfl rfl)
theorem dX1_made_52 : decode cX1_made 52 = .ok (.new 61, 3) := dk_187 0 61 (dk_at dksX1_made_3 0 rfl rfl)
theorem dX1_made_55 : decode cX1_made 55 = .ok (.dup, 1) := dk_89 (dk_at dksX1_made_3 3 rfl rfl)
theorem dX1_made_56 : decode cX1_made 56 = .ok (.iload_n 1, 1) := dk_27 (dk_at dksX1_made_3 4 rfl rfl)
theorem dX1_made_57 : decode cX1_made 57 = .ok (.iload_n 2, 1) := dk_28 (dk_at dksX1_made_3 5 rfl rfl)
theorem dX1_made_58 : decode cX1_made 58 = .ok (.invokespecial 63, 3) := dk_183 0 63 (dk_at dksX1_made_3 6 rfl rfl)
theorem dX1_made_61 : decode cX1_made 61 = .ok (.areturn, 1) := dk_176 (dk_at dksX1_made_3 9 rfl rfl)
abbrev cX1_keepNew : ByteArray := prog_1_method_5_code
def yX1_keepNew : MethodName := ⟨RX1, "keepNew", "(LLevelScores$Score;)I"⟩
def dkwX1_keepNew_1 : List UInt8 := [4, 100, 172]
abbrev dktX1_keepNew_1 : List UInt8 := dkwX1_keepNew_1 ++ []
def dkwX1_keepNew_0 : List UInt8 := [42, 180, 0, 11, 42, 180, 0, 47, 43, 83, 42, 89, 180, 0, 47, 4, 96, 181, 0, 47, 42, 180, 0, 47]
abbrev dktX1_keepNew_0 : List UInt8 := dkwX1_keepNew_0 ++ dktX1_keepNew_1
theorem dksX1_keepNew_0 : cX1_keepNew.data.toList.drop 0 = dktX1_keepNew_0 := by decide +kernel
theorem dksX1_keepNew_1 : cX1_keepNew.data.toList.drop 24 = dktX1_keepNew_1 := dk_seg dksX1_keepNew_0 24 rfl rfl
theorem dX1_keepNew_0 : decode cX1_keepNew 0 = .ok (.aload_n 0, 1) := dk_42 (dk_at dksX1_keepNew_0 0 rfl rfl)
theorem dX1_keepNew_1 : decode cX1_keepNew 1 = .ok (.getfield 11, 3) := dk_180 0 11 (dk_at dksX1_keepNew_0 1 rfl rfl)
theorem dX1_keepNew_4 : decode cX1_keepNew 4 = .ok (.aload_n 0, 1) := dk_42 (dk_at dksX1_keepNew_0 4 rfl rfl)
theorem dX1_keepNew_5 : decode cX1_keepNew 5 = .ok (.getfield 47, 3) := dk_180 0 47 (dk_at dksX1_keepNew_0 5 rfl rfl)
theorem dX1_keepNew_8 : decode cX1_keepNew 8 = .ok (.aload_n 1, 1) := dk_43 (dk_at dksX1_keepNew_0 8 rfl rfl)
theorem dX1_keepNew_9 : decode cX1_keepNew 9 = .ok (.aastore, 1) := dk_83 (dk_at dksX1_keepNew_0 9 rfl rfl)
theorem dX1_keepNew_10 : decode cX1_keepNew 10 = .ok (.aload_n 0, 1) := dk_42 (dk_at dksX1_keepNew_0 10 rfl rfl)
theorem dX1_keepNew_11 : decode cX1_keepNew 11 = .ok (.dup, 1) := dk_89 (dk_at dksX1_keepNew_0 11 rfl rfl)
theorem dX1_keepNew_12 : decode cX1_keepNew 12 = .ok (.getfield 47, 3) := dk_180 0 47 (dk_at dksX1_keepNew_0 12 rfl rfl)
theorem dX1_keepNew_15 : decode cX1_keepNew 15 = .ok (.iconst 1, 1) := dk_4 (dk_at dksX1_keepNew_0 15 rfl rfl)
theorem dX1_keepNew_16 : decode cX1_keepNew 16 = .ok (.iadd, 1) := dk_96 (dk_at dksX1_keepNew_0 16 rfl rfl)
theorem dX1_keepNew_17 : decode cX1_keepNew 17 = .ok (.putfield 47, 3) := dk_181 0 47 (dk_at dksX1_keepNew_0 17 rfl rfl)
theorem dX1_keepNew_20 : decode cX1_keepNew 20 = .ok (.aload_n 0, 1) := dk_42 (dk_at dksX1_keepNew_0 20 rfl rfl)
theorem dX1_keepNew_21 : decode cX1_keepNew 21 = .ok (.getfield 47, 3) := dk_180 0 47 (dk_at dksX1_keepNew_0 21 rfl rfl)
theorem dX1_keepNew_24 : decode cX1_keepNew 24 = .ok (.iconst 1, 1) := dk_4 (dk_at dksX1_keepNew_1 0 rfl rfl)
theorem dX1_keepNew_25 : decode cX1_keepNew 25 = .ok (.isub, 1) := dk_100 (dk_at dksX1_keepNew_1 1 rfl rfl)
theorem dX1_keepNew_26 : decode cX1_keepNew 26 = .ok (.ireturn, 1) := dk_172 (dk_at dksX1_keepNew_1 2 rfl rfl)
abbrev cX1_nothing : ByteArray := prog_1_method_8_code
def yX1_nothing : MethodName := ⟨RX1, "nothing", "()I"⟩
def dkwX1_nothing_0 : List UInt8 := [42, 180, 0, 47, 16, 60, 160, 0, 8, 16, 252, 167, 0, 8, 42, 1, 182, 0, 70, 172]
abbrev dktX1_nothing_0 : List UInt8 := dkwX1_nothing_0 ++ []
theorem dksX1_nothing_0 : cX1_nothing.data.toList.drop 0 = dktX1_nothing_0 := by decide +kernel
theorem dX1_nothing_0 : decode cX1_nothing 0 = .ok (.aload_n 0, 1) := dk_42 (dk_at dksX1_nothing_0 0 rfl rfl)
theorem dX1_nothing_1 : decode cX1_nothing 1 = .ok (.getfield 47, 3) := dk_180 0 47 (dk_at dksX1_nothing_0 1 rfl rfl)
theorem dX1_nothing_4 : decode cX1_nothing 4 = .ok (.bipush 60, 2) := dk_16 60 (dk_at dksX1_nothing_0 4 rfl rfl)
theorem dX1_nothing_6 : decode cX1_nothing 6 = .ok (.if_icmp .ne 8, 3) := dk_160 0 8 (dk_at dksX1_nothing_0 6 rfl rfl)
theorem dX1_nothing_9 : decode cX1_nothing 9 = .ok (.bipush (-4), 2) := dk_16 252 (dk_at dksX1_nothing_0 9 rfl rfl)
theorem dX1_nothing_11 : decode cX1_nothing 11 = .ok (.goto 8, 3) := dk_167 0 8 (dk_at dksX1_nothing_0 11 rfl rfl)
theorem dX1_nothing_14 : decode cX1_nothing 14 = .ok (.aload_n 0, 1) := dk_42 (dk_at dksX1_nothing_0 14 rfl rfl)
theorem dX1_nothing_15 : decode cX1_nothing 15 = .ok (.aconst_null, 1) := dk_1 (dk_at dksX1_nothing_0 15 rfl rfl)
theorem dX1_nothing_16 : decode cX1_nothing 16 = .ok (.invokevirtual 70, 3) := dk_182 0 70 (dk_at dksX1_nothing_0 16 rfl rfl)
theorem dX1_nothing_19 : decode cX1_nothing 19 = .ok (.ireturn, 1) := dk_172 (dk_at dksX1_nothing_0 19 rfl rfl)
abbrev cX1_set : ByteArray := prog_1_method_9_code
def yX1_set : MethodName := ⟨RX1, "set", "(IIJ)I"⟩
def dkwX1_set_1 : List UInt8 := [167, 0, 13, 58, 5, 16, 245, 172, 58, 5, 16, 243, 172, 4, 172]
abbrev dktX1_set_1 : List UInt8 := dkwX1_set_1 ++ []
def dkwX1_set_0 : List UInt8 := [42, 27, 182, 0, 76, 154, 0, 6, 16, 254, 172, 42, 180, 0, 11, 27, 50, 180, 0, 80, 28, 33, 80]
abbrev dktX1_set_0 : List UInt8 := dkwX1_set_0 ++ dktX1_set_1
theorem dksX1_set_0 : cX1_set.data.toList.drop 0 = dktX1_set_0 := by decide +kernel
theorem dksX1_set_1 : cX1_set.data.toList.drop 23 = dktX1_set_1 := dk_seg dksX1_set_0 23 rfl rfl
theorem dX1_set_0 : decode cX1_set 0 = .ok (.aload_n 0, 1) := dk_42 (dk_at dksX1_set_0 0 rfl rfl)
theorem dX1_set_1 : decode cX1_set 1 = .ok (.iload_n 1, 1) := dk_27 (dk_at dksX1_set_0 1 rfl rfl)
theorem dX1_set_2 : decode cX1_set 2 = .ok (.invokevirtual 76, 3) := dk_182 0 76 (dk_at dksX1_set_0 2 rfl rfl)
theorem dX1_set_5 : decode cX1_set 5 = .ok (.ifCond .ne 6, 3) := dk_154 0 6 (dk_at dksX1_set_0 5 rfl rfl)
theorem dX1_set_8 : decode cX1_set 8 = .ok (.bipush (-2), 2) := dk_16 254 (dk_at dksX1_set_0 8 rfl rfl)
theorem dX1_set_10 : decode cX1_set 10 = .ok (.ireturn, 1) := dk_172 (dk_at dksX1_set_0 10 rfl rfl)
theorem dX1_set_11 : decode cX1_set 11 = .ok (.aload_n 0, 1) := dk_42 (dk_at dksX1_set_0 11 rfl rfl)
theorem dX1_set_12 : decode cX1_set 12 = .ok (.getfield 11, 3) := dk_180 0 11 (dk_at dksX1_set_0 12 rfl rfl)
theorem dX1_set_15 : decode cX1_set 15 = .ok (.iload_n 1, 1) := dk_27 (dk_at dksX1_set_0 15 rfl rfl)
theorem dX1_set_16 : decode cX1_set 16 = .ok (.aaload, 1) := dk_50 (dk_at dksX1_set_0 16 rfl rfl)
theorem dX1_set_17 : decode cX1_set 17 = .ok (.getfield 80, 3) := dk_180 0 80 (dk_at dksX1_set_0 17 rfl rfl)
theorem dX1_set_20 : decode cX1_set 20 = .ok (.iload_n 2, 1) := dk_28 (dk_at dksX1_set_0 20 rfl rfl)
theorem dX1_set_21 : decode cX1_set 21 = .ok (.lload_n 3, 1) := dk_33 (dk_at dksX1_set_0 21 rfl rfl)
theorem dX1_set_22 : decode cX1_set 22 = .ok (.lastore, 1) := dk_80 (dk_at dksX1_set_0 22 rfl rfl)
theorem dX1_set_23 : decode cX1_set 23 = .ok (.goto 13, 3) := dk_167 0 13 (dk_at dksX1_set_1 0 rfl rfl)
theorem dX1_set_26 : decode cX1_set 26 = .ok (.astore 5, 2) := dk_58 5 (dk_at dksX1_set_1 3 rfl rfl)
theorem dX1_set_28 : decode cX1_set 28 = .ok (.bipush (-11), 2) := dk_16 245 (dk_at dksX1_set_1 5 rfl rfl)
theorem dX1_set_30 : decode cX1_set 30 = .ok (.ireturn, 1) := dk_172 (dk_at dksX1_set_1 7 rfl rfl)
theorem dX1_set_31 : decode cX1_set 31 = .ok (.astore 5, 2) := dk_58 5 (dk_at dksX1_set_1 8 rfl rfl)
theorem dX1_set_33 : decode cX1_set 33 = .ok (.bipush (-13), 2) := dk_16 243 (dk_at dksX1_set_1 10 rfl rfl)
theorem dX1_set_35 : decode cX1_set 35 = .ok (.ireturn, 1) := dk_172 (dk_at dksX1_set_1 12 rfl rfl)
theorem dX1_set_36 : decode cX1_set 36 = .ok (.iconst 1, 1) := dk_4 (dk_at dksX1_set_1 13 rfl rfl)
theorem dX1_set_37 : decode cX1_set 37 = .ok (.ireturn, 1) := dk_172 (dk_at dksX1_set_1 14 rfl rfl)
abbrev cX1_isScore : ByteArray := prog_1_method_4_code
def yX1_isScore : MethodName := ⟨RX1, "isScore", "(I)Z"⟩
def dkwX1_isScore_0 : List UInt8 := [27, 3, 42, 180, 0, 47, 4, 100, 184, 0, 51, 172]
abbrev dktX1_isScore_0 : List UInt8 := dkwX1_isScore_0 ++ []
theorem dksX1_isScore_0 : cX1_isScore.data.toList.drop 0 = dktX1_isScore_0 := by decide +kernel
theorem dX1_isScore_0 : decode cX1_isScore 0 = .ok (.iload_n 1, 1) := dk_27 (dk_at dksX1_isScore_0 0 rfl rfl)
theorem dX1_isScore_1 : decode cX1_isScore 1 = .ok (.iconst 0, 1) := dk_3 (dk_at dksX1_isScore_0 1 rfl rfl)
theorem dX1_isScore_2 : decode cX1_isScore 2 = .ok (.aload_n 0, 1) := dk_42 (dk_at dksX1_isScore_0 2 rfl rfl)
theorem dX1_isScore_3 : decode cX1_isScore 3 = .ok (.getfield 47, 3) := dk_180 0 47 (dk_at dksX1_isScore_0 3 rfl rfl)
theorem dX1_isScore_6 : decode cX1_isScore 6 = .ok (.iconst 1, 1) := dk_4 (dk_at dksX1_isScore_0 6 rfl rfl)
theorem dX1_isScore_7 : decode cX1_isScore 7 = .ok (.isub, 1) := dk_100 (dk_at dksX1_isScore_0 7 rfl rfl)
theorem dX1_isScore_8 : decode cX1_isScore 8 = .ok (.invokestatic 51, 3) := dk_184 0 51 (dk_at dksX1_isScore_0 8 rfl rfl)
theorem dX1_isScore_11 : decode cX1_isScore 11 = .ok (.ireturn, 1) := dk_172 (dk_at dksX1_isScore_0 11 rfl rfl)
abbrev cX1_told : ByteArray := prog_1_method_12_code
def yX1_told : MethodName := ⟨RX1, "told", "(II)I"⟩
def dkwX1_told_4 : List UInt8 := [16, 245, 172]
abbrev dktX1_told_4 : List UInt8 := dkwX1_told_4 ++ []
def dkwX1_told_3 : List UInt8 := [185, 0, 93, 1, 0, 167, 0, 15, 45, 184, 0, 108, 153, 0, 7, 4, 167, 0, 4, 3, 172, 58, 5]
abbrev dktX1_told_3 : List UInt8 := dkwX1_told_3 ++ dktX1_told_4
def dkwX1_told_2 : List UInt8 := [160, 0, 13, 25, 4, 185, 0, 105, 1, 0, 167, 0, 30, 28, 5, 160, 0, 13, 25, 4]
abbrev dktX1_told_2 : List UInt8 := dkwX1_told_2 ++ dktX1_told_3
def dkwX1_told_1 : List UInt8 := [180, 0, 11, 27, 50, 78, 45, 58, 4, 28, 154, 0, 10, 45, 182, 0, 102, 167, 0, 45, 28, 4]
abbrev dktX1_told_1 : List UInt8 := dkwX1_told_1 ++ dktX1_told_2
def dkwX1_told_0 : List UInt8 := [42, 27, 182, 0, 76, 154, 0, 6, 16, 254, 172, 28, 3, 6, 184, 0, 51, 154, 0, 6, 16, 253, 172, 42]
abbrev dktX1_told_0 : List UInt8 := dkwX1_told_0 ++ dktX1_told_1
theorem dksX1_told_0 : cX1_told.data.toList.drop 0 = dktX1_told_0 := by decide +kernel
theorem dksX1_told_1 : cX1_told.data.toList.drop 24 = dktX1_told_1 := dk_seg dksX1_told_0 24 rfl rfl
theorem dksX1_told_2 : cX1_told.data.toList.drop 46 = dktX1_told_2 := dk_seg dksX1_told_1 22 rfl rfl
theorem dksX1_told_3 : cX1_told.data.toList.drop 66 = dktX1_told_3 := dk_seg dksX1_told_2 20 rfl rfl
theorem dksX1_told_4 : cX1_told.data.toList.drop 89 = dktX1_told_4 := dk_seg dksX1_told_3 23 rfl rfl
theorem dX1_told_0 : decode cX1_told 0 = .ok (.aload_n 0, 1) := dk_42 (dk_at dksX1_told_0 0 rfl rfl)
theorem dX1_told_1 : decode cX1_told 1 = .ok (.iload_n 1, 1) := dk_27 (dk_at dksX1_told_0 1 rfl rfl)
theorem dX1_told_2 : decode cX1_told 2 = .ok (.invokevirtual 76, 3) := dk_182 0 76 (dk_at dksX1_told_0 2 rfl rfl)
theorem dX1_told_5 : decode cX1_told 5 = .ok (.ifCond .ne 6, 3) := dk_154 0 6 (dk_at dksX1_told_0 5 rfl rfl)
theorem dX1_told_8 : decode cX1_told 8 = .ok (.bipush (-2), 2) := dk_16 254 (dk_at dksX1_told_0 8 rfl rfl)
theorem dX1_told_10 : decode cX1_told 10 = .ok (.ireturn, 1) := dk_172 (dk_at dksX1_told_0 10 rfl rfl)
theorem dX1_told_11 : decode cX1_told 11 = .ok (.iload_n 2, 1) := dk_28 (dk_at dksX1_told_0 11 rfl rfl)
theorem dX1_told_12 : decode cX1_told 12 = .ok (.iconst 0, 1) := dk_3 (dk_at dksX1_told_0 12 rfl rfl)
theorem dX1_told_13 : decode cX1_told 13 = .ok (.iconst 3, 1) := dk_6 (dk_at dksX1_told_0 13 rfl rfl)
theorem dX1_told_14 : decode cX1_told 14 = .ok (.invokestatic 51, 3) := dk_184 0 51 (dk_at dksX1_told_0 14 rfl rfl)
theorem dX1_told_17 : decode cX1_told 17 = .ok (.ifCond .ne 6, 3) := dk_154 0 6 (dk_at dksX1_told_0 17 rfl rfl)
theorem dX1_told_20 : decode cX1_told 20 = .ok (.bipush (-3), 2) := dk_16 253 (dk_at dksX1_told_0 20 rfl rfl)
theorem dX1_told_22 : decode cX1_told 22 = .ok (.ireturn, 1) := dk_172 (dk_at dksX1_told_0 22 rfl rfl)
theorem dX1_told_23 : decode cX1_told 23 = .ok (.aload_n 0, 1) := dk_42 (dk_at dksX1_told_0 23 rfl rfl)
theorem dX1_told_24 : decode cX1_told 24 = .ok (.getfield 11, 3) := dk_180 0 11 (dk_at dksX1_told_1 0 rfl rfl)
theorem dX1_told_27 : decode cX1_told 27 = .ok (.iload_n 1, 1) := dk_27 (dk_at dksX1_told_1 3 rfl rfl)
theorem dX1_told_28 : decode cX1_told 28 = .ok (.aaload, 1) := dk_50 (dk_at dksX1_told_1 4 rfl rfl)
theorem dX1_told_29 : decode cX1_told 29 = .ok (.astore_n 3, 1) := dk_78 (dk_at dksX1_told_1 5 rfl rfl)
theorem dX1_told_30 : decode cX1_told 30 = .ok (.aload_n 3, 1) := dk_45 (dk_at dksX1_told_1 6 rfl rfl)
theorem dX1_told_31 : decode cX1_told 31 = .ok (.astore 4, 2) := dk_58 4 (dk_at dksX1_told_1 7 rfl rfl)
theorem dX1_told_33 : decode cX1_told 33 = .ok (.iload_n 2, 1) := dk_28 (dk_at dksX1_told_1 9 rfl rfl)
theorem dX1_told_34 : decode cX1_told 34 = .ok (.ifCond .ne 10, 3) := dk_154 0 10 (dk_at dksX1_told_1 10 rfl rfl)
theorem dX1_told_37 : decode cX1_told 37 = .ok (.aload_n 3, 1) := dk_45 (dk_at dksX1_told_1 13 rfl rfl)
theorem dX1_told_38 : decode cX1_told 38 = .ok (.invokevirtual 102, 3) := dk_182 0 102 (dk_at dksX1_told_1 14 rfl rfl)
theorem dX1_told_41 : decode cX1_told 41 = .ok (.goto 45, 3) := dk_167 0 45 (dk_at dksX1_told_1 17 rfl rfl)
theorem dX1_told_44 : decode cX1_told 44 = .ok (.iload_n 2, 1) := dk_28 (dk_at dksX1_told_1 20 rfl rfl)
theorem dX1_told_45 : decode cX1_told 45 = .ok (.iconst 1, 1) := dk_4 (dk_at dksX1_told_1 21 rfl rfl)
theorem dX1_told_46 : decode cX1_told 46 = .ok (.if_icmp .ne 13, 3) := dk_160 0 13 (dk_at dksX1_told_2 0 rfl rfl)
theorem dX1_told_49 : decode cX1_told 49 = .ok (.aload 4, 2) := dk_25 4 (dk_at dksX1_told_2 3 rfl rfl)
theorem dX1_told_51 : decode cX1_told 51 = .ok (.invokeinterface 105 1, 5) := by decide +kernel
theorem dX1_told_56 : decode cX1_told 56 = .ok (.goto 30, 3) := dk_167 0 30 (dk_at dksX1_told_2 10 rfl rfl)
theorem dX1_told_59 : decode cX1_told 59 = .ok (.iload_n 2, 1) := dk_28 (dk_at dksX1_told_2 13 rfl rfl)
theorem dX1_told_60 : decode cX1_told 60 = .ok (.iconst 2, 1) := dk_5 (dk_at dksX1_told_2 14 rfl rfl)
theorem dX1_told_61 : decode cX1_told 61 = .ok (.if_icmp .ne 13, 3) := dk_160 0 13 (dk_at dksX1_told_2 15 rfl rfl)
theorem dX1_told_64 : decode cX1_told 64 = .ok (.aload 4, 2) := dk_25 4 (dk_at dksX1_told_2 18 rfl rfl)
theorem dX1_told_66 : decode cX1_told 66 = .ok (.invokeinterface 93 1, 5) := by decide +kernel
theorem dX1_told_71 : decode cX1_told 71 = .ok (.goto 15, 3) := dk_167 0 15 (dk_at dksX1_told_3 5 rfl rfl)
theorem dX1_told_74 : decode cX1_told 74 = .ok (.aload_n 3, 1) := dk_45 (dk_at dksX1_told_3 8 rfl rfl)
theorem dX1_told_75 : decode cX1_told 75 = .ok (.invokestatic 108, 3) := dk_184 0 108 (dk_at dksX1_told_3 9 rfl rfl)
theorem dX1_told_78 : decode cX1_told 78 = .ok (.ifCond .eq 7, 3) := dk_153 0 7 (dk_at dksX1_told_3 12 rfl rfl)
theorem dX1_told_81 : decode cX1_told 81 = .ok (.iconst 1, 1) := dk_4 (dk_at dksX1_told_3 15 rfl rfl)
theorem dX1_told_82 : decode cX1_told 82 = .ok (.goto 4, 3) := dk_167 0 4 (dk_at dksX1_told_3 16 rfl rfl)
theorem dX1_told_85 : decode cX1_told 85 = .ok (.iconst 0, 1) := dk_3 (dk_at dksX1_told_3 19 rfl rfl)
theorem dX1_told_86 : decode cX1_told 86 = .ok (.ireturn, 1) := dk_172 (dk_at dksX1_told_3 20 rfl rfl)
theorem dX1_told_87 : decode cX1_told 87 = .ok (.astore 5, 2) := dk_58 5 (dk_at dksX1_told_3 21 rfl rfl)
theorem dX1_told_89 : decode cX1_told 89 = .ok (.bipush (-11), 2) := dk_16 245 (dk_at dksX1_told_4 0 rfl rfl)
theorem dX1_told_91 : decode cX1_told 91 = .ok (.ireturn, 1) := dk_172 (dk_at dksX1_told_4 2 rfl rfl)
abbrev cX1_isFeasible : ByteArray := prog_1_method_11_code
def yX1_isFeasible : MethodName := ⟨RX1, "isFeasible", "(LLevelScores$Score;)Z"⟩
def dkwX1_isFeasible_2 : List UInt8 := [167, 255, 214, 28, 172]
abbrev dktX1_isFeasible_2 : List UInt8 := dkwX1_isFeasible_2 ++ []
def dkwX1_isFeasible_1 : List UInt8 := [153, 0, 14, 42, 180, 0, 80, 29, 47, 9, 148, 155, 0, 7, 4, 167, 0, 4, 3, 126, 61, 132, 3, 1]
abbrev dktX1_isFeasible_1 : List UInt8 := dkwX1_isFeasible_1 ++ dktX1_isFeasible_2
def dkwX1_isFeasible_0 : List UInt8 := [42, 76, 4, 61, 3, 62, 29, 43, 185, 0, 93, 1, 0, 162, 0, 38, 28, 43, 29, 185, 0, 99, 2, 0]
abbrev dktX1_isFeasible_0 : List UInt8 := dkwX1_isFeasible_0 ++ dktX1_isFeasible_1
theorem dksX1_isFeasible_0 : cX1_isFeasible.data.toList.drop 0 = dktX1_isFeasible_0 := by decide +kernel
theorem dksX1_isFeasible_1 : cX1_isFeasible.data.toList.drop 24 = dktX1_isFeasible_1 := dk_seg dksX1_isFeasible_0 24 rfl rfl
theorem dksX1_isFeasible_2 : cX1_isFeasible.data.toList.drop 48 = dktX1_isFeasible_2 := dk_seg dksX1_isFeasible_1 24 rfl rfl
theorem dX1_isFeasible_0 : decode cX1_isFeasible 0 = .ok (.aload_n 0, 1) := dk_42 (dk_at dksX1_isFeasible_0 0 rfl rfl)
theorem dX1_isFeasible_1 : decode cX1_isFeasible 1 = .ok (.astore_n 1, 1) := dk_76 (dk_at dksX1_isFeasible_0 1 rfl rfl)
theorem dX1_isFeasible_2 : decode cX1_isFeasible 2 = .ok (.iconst 1, 1) := dk_4 (dk_at dksX1_isFeasible_0 2 rfl rfl)
theorem dX1_isFeasible_3 : decode cX1_isFeasible 3 = .ok (.istore_n 2, 1) := dk_61 (dk_at dksX1_isFeasible_0 3 rfl rfl)
theorem dX1_isFeasible_4 : decode cX1_isFeasible 4 = .ok (.iconst 0, 1) := dk_3 (dk_at dksX1_isFeasible_0 4 rfl rfl)
theorem dX1_isFeasible_5 : decode cX1_isFeasible 5 = .ok (.istore_n 3, 1) := dk_62 (dk_at dksX1_isFeasible_0 5 rfl rfl)
theorem dX1_isFeasible_6 : decode cX1_isFeasible 6 = .ok (.iload_n 3, 1) := dk_29 (dk_at dksX1_isFeasible_0 6 rfl rfl)
theorem dX1_isFeasible_7 : decode cX1_isFeasible 7 = .ok (.aload_n 1, 1) := dk_43 (dk_at dksX1_isFeasible_0 7 rfl rfl)
theorem dX1_isFeasible_8 : decode cX1_isFeasible 8 = .ok (.invokeinterface 93 1, 5) := by decide +kernel
theorem dX1_isFeasible_13 : decode cX1_isFeasible 13 = .ok (.if_icmp .ge 38, 3) := dk_162 0 38 (dk_at dksX1_isFeasible_0 13 rfl rfl)
theorem dX1_isFeasible_16 : decode cX1_isFeasible 16 = .ok (.iload_n 2, 1) := dk_28 (dk_at dksX1_isFeasible_0 16 rfl rfl)
theorem dX1_isFeasible_17 : decode cX1_isFeasible 17 = .ok (.aload_n 1, 1) := dk_43 (dk_at dksX1_isFeasible_0 17 rfl rfl)
theorem dX1_isFeasible_18 : decode cX1_isFeasible 18 = .ok (.iload_n 3, 1) := dk_29 (dk_at dksX1_isFeasible_0 18 rfl rfl)
theorem dX1_isFeasible_19 : decode cX1_isFeasible 19 = .ok (.invokeinterface 99 2, 5) := by decide +kernel
theorem dX1_isFeasible_24 : decode cX1_isFeasible 24 = .ok (.ifCond .eq 14, 3) := dk_153 0 14 (dk_at dksX1_isFeasible_1 0 rfl rfl)
theorem dX1_isFeasible_27 : decode cX1_isFeasible 27 = .ok (.aload_n 0, 1) := dk_42 (dk_at dksX1_isFeasible_1 3 rfl rfl)
theorem dX1_isFeasible_28 : decode cX1_isFeasible 28 = .ok (.getfield 80, 3) := dk_180 0 80 (dk_at dksX1_isFeasible_1 4 rfl rfl)
theorem dX1_isFeasible_31 : decode cX1_isFeasible 31 = .ok (.iload_n 3, 1) := dk_29 (dk_at dksX1_isFeasible_1 7 rfl rfl)
theorem dX1_isFeasible_32 : decode cX1_isFeasible 32 = .ok (.laload, 1) := dk_47 (dk_at dksX1_isFeasible_1 8 rfl rfl)
theorem dX1_isFeasible_33 : decode cX1_isFeasible 33 = .ok (.lconst 0, 1) := dk_9 (dk_at dksX1_isFeasible_1 9 rfl rfl)
theorem dX1_isFeasible_34 : decode cX1_isFeasible 34 = .ok (.lcmp, 1) := dk_148 (dk_at dksX1_isFeasible_1 10 rfl rfl)
theorem dX1_isFeasible_35 : decode cX1_isFeasible 35 = .ok (.ifCond .lt 7, 3) := dk_155 0 7 (dk_at dksX1_isFeasible_1 11 rfl rfl)
theorem dX1_isFeasible_38 : decode cX1_isFeasible 38 = .ok (.iconst 1, 1) := dk_4 (dk_at dksX1_isFeasible_1 14 rfl rfl)
theorem dX1_isFeasible_39 : decode cX1_isFeasible 39 = .ok (.goto 4, 3) := dk_167 0 4 (dk_at dksX1_isFeasible_1 15 rfl rfl)
theorem dX1_isFeasible_42 : decode cX1_isFeasible 42 = .ok (.iconst 0, 1) := dk_3 (dk_at dksX1_isFeasible_1 18 rfl rfl)
theorem dX1_isFeasible_43 : decode cX1_isFeasible 43 = .ok (.iand, 1) := dk_126 (dk_at dksX1_isFeasible_1 19 rfl rfl)
theorem dX1_isFeasible_44 : decode cX1_isFeasible 44 = .ok (.istore_n 2, 1) := dk_61 (dk_at dksX1_isFeasible_1 20 rfl rfl)
theorem dX1_isFeasible_45 : decode cX1_isFeasible 45 = .ok (.iinc 3 1, 3) := dk_132 3 1 (dk_at dksX1_isFeasible_1 21 rfl rfl)
theorem dX1_isFeasible_48 : decode cX1_isFeasible 48 = .ok (.goto (-42), 3) := dk_167 255 214 (dk_at dksX1_isFeasible_2 0 rfl rfl)
theorem dX1_isFeasible_51 : decode cX1_isFeasible 51 = .ok (.iload_n 2, 1) := dk_28 (dk_at dksX1_isFeasible_2 3 rfl rfl)
theorem dX1_isFeasible_52 : decode cX1_isFeasible 52 = .ok (.ireturn, 1) := dk_172 (dk_at dksX1_isFeasible_2 4 rfl rfl)
abbrev cX1_act : ByteArray := prog_1_method_15_code
def yX1_act : MethodName := ⟨RX1, "act", "(III)I"⟩
def dkwX1_act_3 : List UInt8 := [58, 4, 16, 244, 172, 58, 4, 16, 240, 172]
abbrev dktX1_act_3 : List UInt8 := dkwX1_act_3 ++ []
def dkwX1_act_2 : List UInt8 := [180, 0, 11, 28, 50, 42, 180, 0, 11, 29, 50, 184, 0, 141, 182, 0, 70, 172, 58, 4, 16, 245, 172]
abbrev dktX1_act_2 : List UInt8 := dkwX1_act_2 ++ dktX1_act_3
def dkwX1_act_1 : List UInt8 := [184, 0, 51, 154, 0, 6, 16, 253, 172, 42, 180, 0, 47, 16, 60, 160, 0, 6, 16, 252, 172, 42, 27, 42]
abbrev dktX1_act_1 : List UInt8 := dkwX1_act_1 ++ dktX1_act_2
def dkwX1_act_0 : List UInt8 := [42, 28, 182, 0, 76, 153, 0, 11, 42, 29, 182, 0, 76, 154, 0, 6, 16, 254, 172, 27, 3, 8]
abbrev dktX1_act_0 : List UInt8 := dkwX1_act_0 ++ dktX1_act_1
theorem dksX1_act_0 : cX1_act.data.toList.drop 0 = dktX1_act_0 := by decide +kernel
theorem dksX1_act_1 : cX1_act.data.toList.drop 22 = dktX1_act_1 := dk_seg dksX1_act_0 22 rfl rfl
theorem dksX1_act_2 : cX1_act.data.toList.drop 46 = dktX1_act_2 := dk_seg dksX1_act_1 24 rfl rfl
theorem dksX1_act_3 : cX1_act.data.toList.drop 69 = dktX1_act_3 := dk_seg dksX1_act_2 23 rfl rfl
theorem dX1_act_0 : decode cX1_act 0 = .ok (.aload_n 0, 1) := dk_42 (dk_at dksX1_act_0 0 rfl rfl)
theorem dX1_act_1 : decode cX1_act 1 = .ok (.iload_n 2, 1) := dk_28 (dk_at dksX1_act_0 1 rfl rfl)
theorem dX1_act_2 : decode cX1_act 2 = .ok (.invokevirtual 76, 3) := dk_182 0 76 (dk_at dksX1_act_0 2 rfl rfl)
theorem dX1_act_5 : decode cX1_act 5 = .ok (.ifCond .eq 11, 3) := dk_153 0 11 (dk_at dksX1_act_0 5 rfl rfl)
theorem dX1_act_8 : decode cX1_act 8 = .ok (.aload_n 0, 1) := dk_42 (dk_at dksX1_act_0 8 rfl rfl)
theorem dX1_act_9 : decode cX1_act 9 = .ok (.iload_n 3, 1) := dk_29 (dk_at dksX1_act_0 9 rfl rfl)
theorem dX1_act_10 : decode cX1_act 10 = .ok (.invokevirtual 76, 3) := dk_182 0 76 (dk_at dksX1_act_0 10 rfl rfl)
theorem dX1_act_13 : decode cX1_act 13 = .ok (.ifCond .ne 6, 3) := dk_154 0 6 (dk_at dksX1_act_0 13 rfl rfl)
theorem dX1_act_16 : decode cX1_act 16 = .ok (.bipush (-2), 2) := dk_16 254 (dk_at dksX1_act_0 16 rfl rfl)
theorem dX1_act_18 : decode cX1_act 18 = .ok (.ireturn, 1) := dk_172 (dk_at dksX1_act_0 18 rfl rfl)
theorem dX1_act_19 : decode cX1_act 19 = .ok (.iload_n 1, 1) := dk_27 (dk_at dksX1_act_0 19 rfl rfl)
theorem dX1_act_20 : decode cX1_act 20 = .ok (.iconst 0, 1) := dk_3 (dk_at dksX1_act_0 20 rfl rfl)
theorem dX1_act_21 : decode cX1_act 21 = .ok (.iconst 5, 1) := dk_8 (dk_at dksX1_act_0 21 rfl rfl)
theorem dX1_act_22 : decode cX1_act 22 = .ok (.invokestatic 51, 3) := dk_184 0 51 (dk_at dksX1_act_1 0 rfl rfl)
theorem dX1_act_25 : decode cX1_act 25 = .ok (.ifCond .ne 6, 3) := dk_154 0 6 (dk_at dksX1_act_1 3 rfl rfl)
theorem dX1_act_28 : decode cX1_act 28 = .ok (.bipush (-3), 2) := dk_16 253 (dk_at dksX1_act_1 6 rfl rfl)
theorem dX1_act_30 : decode cX1_act 30 = .ok (.ireturn, 1) := dk_172 (dk_at dksX1_act_1 8 rfl rfl)
theorem dX1_act_31 : decode cX1_act 31 = .ok (.aload_n 0, 1) := dk_42 (dk_at dksX1_act_1 9 rfl rfl)
theorem dX1_act_32 : decode cX1_act 32 = .ok (.getfield 47, 3) := dk_180 0 47 (dk_at dksX1_act_1 10 rfl rfl)
theorem dX1_act_35 : decode cX1_act 35 = .ok (.bipush 60, 2) := dk_16 60 (dk_at dksX1_act_1 13 rfl rfl)
theorem dX1_act_37 : decode cX1_act 37 = .ok (.if_icmp .ne 6, 3) := dk_160 0 6 (dk_at dksX1_act_1 15 rfl rfl)
theorem dX1_act_40 : decode cX1_act 40 = .ok (.bipush (-4), 2) := dk_16 252 (dk_at dksX1_act_1 18 rfl rfl)
theorem dX1_act_42 : decode cX1_act 42 = .ok (.ireturn, 1) := dk_172 (dk_at dksX1_act_1 20 rfl rfl)
theorem dX1_act_43 : decode cX1_act 43 = .ok (.aload_n 0, 1) := dk_42 (dk_at dksX1_act_1 21 rfl rfl)
theorem dX1_act_44 : decode cX1_act 44 = .ok (.iload_n 1, 1) := dk_27 (dk_at dksX1_act_1 22 rfl rfl)
theorem dX1_act_45 : decode cX1_act 45 = .ok (.aload_n 0, 1) := dk_42 (dk_at dksX1_act_1 23 rfl rfl)
theorem dX1_act_46 : decode cX1_act 46 = .ok (.getfield 11, 3) := dk_180 0 11 (dk_at dksX1_act_2 0 rfl rfl)
theorem dX1_act_49 : decode cX1_act 49 = .ok (.iload_n 2, 1) := dk_28 (dk_at dksX1_act_2 3 rfl rfl)
theorem dX1_act_50 : decode cX1_act 50 = .ok (.aaload, 1) := dk_50 (dk_at dksX1_act_2 4 rfl rfl)
theorem dX1_act_51 : decode cX1_act 51 = .ok (.aload_n 0, 1) := dk_42 (dk_at dksX1_act_2 5 rfl rfl)
theorem dX1_act_52 : decode cX1_act 52 = .ok (.getfield 11, 3) := dk_180 0 11 (dk_at dksX1_act_2 6 rfl rfl)
theorem dX1_act_55 : decode cX1_act 55 = .ok (.iload_n 3, 1) := dk_29 (dk_at dksX1_act_2 9 rfl rfl)
theorem dX1_act_56 : decode cX1_act 56 = .ok (.aaload, 1) := dk_50 (dk_at dksX1_act_2 10 rfl rfl)
theorem dX1_act_57 : decode cX1_act 57 = .ok (.invokestatic 141, 3) := dk_184 0 141 (dk_at dksX1_act_2 11 rfl rfl)
theorem dX1_act_60 : decode cX1_act 60 = .ok (.invokevirtual 70, 3) := dk_182 0 70 (dk_at dksX1_act_2 14 rfl rfl)
theorem dX1_act_63 : decode cX1_act 63 = .ok (.ireturn, 1) := dk_172 (dk_at dksX1_act_2 17 rfl rfl)
theorem dX1_act_64 : decode cX1_act 64 = .ok (.astore 4, 2) := dk_58 4 (dk_at dksX1_act_2 18 rfl rfl)
theorem dX1_act_66 : decode cX1_act 66 = .ok (.bipush (-11), 2) := dk_16 245 (dk_at dksX1_act_2 20 rfl rfl)
theorem dX1_act_68 : decode cX1_act 68 = .ok (.ireturn, 1) := dk_172 (dk_at dksX1_act_2 22 rfl rfl)
theorem dX1_act_69 : decode cX1_act 69 = .ok (.astore 4, 2) := dk_58 4 (dk_at dksX1_act_3 0 rfl rfl)
theorem dX1_act_71 : decode cX1_act 71 = .ok (.bipush (-12), 2) := dk_16 244 (dk_at dksX1_act_3 2 rfl rfl)
theorem dX1_act_73 : decode cX1_act 73 = .ok (.ireturn, 1) := dk_172 (dk_at dksX1_act_3 4 rfl rfl)
theorem dX1_act_74 : decode cX1_act 74 = .ok (.astore 4, 2) := dk_58 4 (dk_at dksX1_act_3 5 rfl rfl)
theorem dX1_act_76 : decode cX1_act 76 = .ok (.bipush (-16), 2) := dk_16 240 (dk_at dksX1_act_3 7 rfl rfl)
theorem dX1_act_78 : decode cX1_act 78 = .ok (.ireturn, 1) := dk_172 (dk_at dksX1_act_3 9 rfl rfl)
abbrev cX1_joined : ByteArray := prog_1_method_14_code
def yX1_joined : MethodName := ⟨RX1, "joined", "(ILLevelScores$Score;LLevelScores$Score;)LLevelScores$Score;"⟩
def dkwX1_joined_5 : List UInt8 := [45, 176]
abbrev dktX1_joined_5 : List UInt8 := dkwX1_joined_5 ++ []
def dkwX1_joined_4 : List UInt8 := [43, 180, 0, 80, 21, 4, 47, 44, 180, 0, 80, 21, 4, 47, 184, 0, 138, 80, 132, 4, 1, 167, 255, 218]
abbrev dktX1_joined_4 : List UInt8 := dkwX1_joined_4 ++ dktX1_joined_5
def dkwX1_joined_3 : List UInt8 := [182, 0, 135, 78, 3, 54, 4, 21, 4, 45, 180, 0, 80, 190, 162, 0, 34, 45, 180, 0, 80, 21, 4, 26]
abbrev dktX1_joined_3 : List UInt8 := dkwX1_joined_3 ++ dktX1_joined_4
def dkwX1_joined_2 : List UInt8 := [167, 0, 4, 3, 62, 29, 153, 0, 10, 43, 182, 0, 131, 167, 0, 7, 44, 182, 0, 131, 176, 43]
abbrev dktX1_joined_2 : List UInt8 := dkwX1_joined_2 ++ dktX1_joined_3
def dkwX1_joined_1 : List UInt8 := [182, 0, 128, 154, 0, 7, 4, 167, 0, 20, 3, 167, 0, 16, 44, 43, 182, 0, 128, 154, 0, 7, 4]
abbrev dktX1_joined_1 : List UInt8 := dkwX1_joined_1 ++ dktX1_joined_2
def dkwX1_joined_0 : List UInt8 := [43, 44, 184, 0, 124, 26, 5, 159, 0, 8, 26, 6, 160, 0, 54, 26, 5, 160, 0, 19, 43, 44]
abbrev dktX1_joined_0 : List UInt8 := dkwX1_joined_0 ++ dktX1_joined_1
theorem dksX1_joined_0 : cX1_joined.data.toList.drop 0 = dktX1_joined_0 := by decide +kernel
theorem dksX1_joined_1 : cX1_joined.data.toList.drop 22 = dktX1_joined_1 := dk_seg dksX1_joined_0 22 rfl rfl
theorem dksX1_joined_2 : cX1_joined.data.toList.drop 45 = dktX1_joined_2 := dk_seg dksX1_joined_1 23 rfl rfl
theorem dksX1_joined_3 : cX1_joined.data.toList.drop 67 = dktX1_joined_3 := dk_seg dksX1_joined_2 22 rfl rfl
theorem dksX1_joined_4 : cX1_joined.data.toList.drop 91 = dktX1_joined_4 := dk_seg dksX1_joined_3 24 rfl rfl
theorem dksX1_joined_5 : cX1_joined.data.toList.drop 115 = dktX1_joined_5 := dk_seg dksX1_joined_4 24 rfl rfl
theorem dX1_joined_0 : decode cX1_joined 0 = .ok (.aload_n 1, 1) := dk_43 (dk_at dksX1_joined_0 0 rfl rfl)
theorem dX1_joined_1 : decode cX1_joined 1 = .ok (.aload_n 2, 1) := dk_44 (dk_at dksX1_joined_0 1 rfl rfl)
theorem dX1_joined_2 : decode cX1_joined 2 = .ok (.invokestatic 124, 3) := dk_184 0 124 (dk_at dksX1_joined_0 2 rfl rfl)
theorem dX1_joined_5 : decode cX1_joined 5 = .ok (.iload_n 0, 1) := dk_26 (dk_at dksX1_joined_0 5 rfl rfl)
theorem dX1_joined_6 : decode cX1_joined 6 = .ok (.iconst 2, 1) := dk_5 (dk_at dksX1_joined_0 6 rfl rfl)
theorem dX1_joined_7 : decode cX1_joined 7 = .ok (.if_icmp .eq 8, 3) := dk_159 0 8 (dk_at dksX1_joined_0 7 rfl rfl)
theorem dX1_joined_10 : decode cX1_joined 10 = .ok (.iload_n 0, 1) := dk_26 (dk_at dksX1_joined_0 10 rfl rfl)
theorem dX1_joined_11 : decode cX1_joined 11 = .ok (.iconst 3, 1) := dk_6 (dk_at dksX1_joined_0 11 rfl rfl)
theorem dX1_joined_12 : decode cX1_joined 12 = .ok (.if_icmp .ne 54, 3) := dk_160 0 54 (dk_at dksX1_joined_0 12 rfl rfl)
theorem dX1_joined_15 : decode cX1_joined 15 = .ok (.iload_n 0, 1) := dk_26 (dk_at dksX1_joined_0 15 rfl rfl)
theorem dX1_joined_16 : decode cX1_joined 16 = .ok (.iconst 2, 1) := dk_5 (dk_at dksX1_joined_0 16 rfl rfl)
theorem dX1_joined_17 : decode cX1_joined 17 = .ok (.if_icmp .ne 19, 3) := dk_160 0 19 (dk_at dksX1_joined_0 17 rfl rfl)
theorem dX1_joined_20 : decode cX1_joined 20 = .ok (.aload_n 1, 1) := dk_43 (dk_at dksX1_joined_0 20 rfl rfl)
theorem dX1_joined_21 : decode cX1_joined 21 = .ok (.aload_n 2, 1) := dk_44 (dk_at dksX1_joined_0 21 rfl rfl)
theorem dX1_joined_22 : decode cX1_joined 22 = .ok (.invokevirtual 128, 3) := dk_182 0 128 (dk_at dksX1_joined_1 0 rfl rfl)
theorem dX1_joined_25 : decode cX1_joined 25 = .ok (.ifCond .ne 7, 3) := dk_154 0 7 (dk_at dksX1_joined_1 3 rfl rfl)
theorem dX1_joined_28 : decode cX1_joined 28 = .ok (.iconst 1, 1) := dk_4 (dk_at dksX1_joined_1 6 rfl rfl)
theorem dX1_joined_29 : decode cX1_joined 29 = .ok (.goto 20, 3) := dk_167 0 20 (dk_at dksX1_joined_1 7 rfl rfl)
theorem dX1_joined_32 : decode cX1_joined 32 = .ok (.iconst 0, 1) := dk_3 (dk_at dksX1_joined_1 10 rfl rfl)
theorem dX1_joined_33 : decode cX1_joined 33 = .ok (.goto 16, 3) := dk_167 0 16 (dk_at dksX1_joined_1 11 rfl rfl)
theorem dX1_joined_36 : decode cX1_joined 36 = .ok (.aload_n 2, 1) := dk_44 (dk_at dksX1_joined_1 14 rfl rfl)
theorem dX1_joined_37 : decode cX1_joined 37 = .ok (.aload_n 1, 1) := dk_43 (dk_at dksX1_joined_1 15 rfl rfl)
theorem dX1_joined_38 : decode cX1_joined 38 = .ok (.invokevirtual 128, 3) := dk_182 0 128 (dk_at dksX1_joined_1 16 rfl rfl)
theorem dX1_joined_41 : decode cX1_joined 41 = .ok (.ifCond .ne 7, 3) := dk_154 0 7 (dk_at dksX1_joined_1 19 rfl rfl)
theorem dX1_joined_44 : decode cX1_joined 44 = .ok (.iconst 1, 1) := dk_4 (dk_at dksX1_joined_1 22 rfl rfl)
theorem dX1_joined_45 : decode cX1_joined 45 = .ok (.goto 4, 3) := dk_167 0 4 (dk_at dksX1_joined_2 0 rfl rfl)
theorem dX1_joined_48 : decode cX1_joined 48 = .ok (.iconst 0, 1) := dk_3 (dk_at dksX1_joined_2 3 rfl rfl)
theorem dX1_joined_49 : decode cX1_joined 49 = .ok (.istore_n 3, 1) := dk_62 (dk_at dksX1_joined_2 4 rfl rfl)
theorem dX1_joined_50 : decode cX1_joined 50 = .ok (.iload_n 3, 1) := dk_29 (dk_at dksX1_joined_2 5 rfl rfl)
theorem dX1_joined_51 : decode cX1_joined 51 = .ok (.ifCond .eq 10, 3) := dk_153 0 10 (dk_at dksX1_joined_2 6 rfl rfl)
theorem dX1_joined_54 : decode cX1_joined 54 = .ok (.aload_n 1, 1) := dk_43 (dk_at dksX1_joined_2 9 rfl rfl)
theorem dX1_joined_55 : decode cX1_joined 55 = .ok (.invokevirtual 131, 3) := dk_182 0 131 (dk_at dksX1_joined_2 10 rfl rfl)
theorem dX1_joined_58 : decode cX1_joined 58 = .ok (.goto 7, 3) := dk_167 0 7 (dk_at dksX1_joined_2 13 rfl rfl)
theorem dX1_joined_61 : decode cX1_joined 61 = .ok (.aload_n 2, 1) := dk_44 (dk_at dksX1_joined_2 16 rfl rfl)
theorem dX1_joined_62 : decode cX1_joined 62 = .ok (.invokevirtual 131, 3) := dk_182 0 131 (dk_at dksX1_joined_2 17 rfl rfl)
theorem dX1_joined_65 : decode cX1_joined 65 = .ok (.areturn, 1) := dk_176 (dk_at dksX1_joined_2 20 rfl rfl)
theorem dX1_joined_66 : decode cX1_joined 66 = .ok (.aload_n 1, 1) := dk_43 (dk_at dksX1_joined_2 21 rfl rfl)
theorem dX1_joined_67 : decode cX1_joined 67 = .ok (.invokevirtual 135, 3) := dk_182 0 135 (dk_at dksX1_joined_3 0 rfl rfl)
theorem dX1_joined_70 : decode cX1_joined 70 = .ok (.astore_n 3, 1) := dk_78 (dk_at dksX1_joined_3 3 rfl rfl)
theorem dX1_joined_71 : decode cX1_joined 71 = .ok (.iconst 0, 1) := dk_3 (dk_at dksX1_joined_3 4 rfl rfl)
theorem dX1_joined_72 : decode cX1_joined 72 = .ok (.istore 4, 2) := dk_54 4 (dk_at dksX1_joined_3 5 rfl rfl)
theorem dX1_joined_74 : decode cX1_joined 74 = .ok (.iload 4, 2) := dk_21 4 (dk_at dksX1_joined_3 7 rfl rfl)
theorem dX1_joined_76 : decode cX1_joined 76 = .ok (.aload_n 3, 1) := dk_45 (dk_at dksX1_joined_3 9 rfl rfl)
theorem dX1_joined_77 : decode cX1_joined 77 = .ok (.getfield 80, 3) := dk_180 0 80 (dk_at dksX1_joined_3 10 rfl rfl)
theorem dX1_joined_80 : decode cX1_joined 80 = .ok (.arraylength, 1) := dk_190 (dk_at dksX1_joined_3 13 rfl rfl)
theorem dX1_joined_81 : decode cX1_joined 81 = .ok (.if_icmp .ge 34, 3) := dk_162 0 34 (dk_at dksX1_joined_3 14 rfl rfl)
theorem dX1_joined_84 : decode cX1_joined 84 = .ok (.aload_n 3, 1) := dk_45 (dk_at dksX1_joined_3 17 rfl rfl)
theorem dX1_joined_85 : decode cX1_joined 85 = .ok (.getfield 80, 3) := dk_180 0 80 (dk_at dksX1_joined_3 18 rfl rfl)
theorem dX1_joined_88 : decode cX1_joined 88 = .ok (.iload 4, 2) := dk_21 4 (dk_at dksX1_joined_3 21 rfl rfl)
theorem dX1_joined_90 : decode cX1_joined 90 = .ok (.iload_n 0, 1) := dk_26 (dk_at dksX1_joined_3 23 rfl rfl)
theorem dX1_joined_91 : decode cX1_joined 91 = .ok (.aload_n 1, 1) := dk_43 (dk_at dksX1_joined_4 0 rfl rfl)
theorem dX1_joined_92 : decode cX1_joined 92 = .ok (.getfield 80, 3) := dk_180 0 80 (dk_at dksX1_joined_4 1 rfl rfl)
theorem dX1_joined_95 : decode cX1_joined 95 = .ok (.iload 4, 2) := dk_21 4 (dk_at dksX1_joined_4 4 rfl rfl)
theorem dX1_joined_97 : decode cX1_joined 97 = .ok (.laload, 1) := dk_47 (dk_at dksX1_joined_4 6 rfl rfl)
theorem dX1_joined_98 : decode cX1_joined 98 = .ok (.aload_n 2, 1) := dk_44 (dk_at dksX1_joined_4 7 rfl rfl)
theorem dX1_joined_99 : decode cX1_joined 99 = .ok (.getfield 80, 3) := dk_180 0 80 (dk_at dksX1_joined_4 8 rfl rfl)
theorem dX1_joined_102 : decode cX1_joined 102 = .ok (.iload 4, 2) := dk_21 4 (dk_at dksX1_joined_4 11 rfl rfl)
theorem dX1_joined_104 : decode cX1_joined 104 = .ok (.laload, 1) := dk_47 (dk_at dksX1_joined_4 13 rfl rfl)
theorem dX1_joined_105 : decode cX1_joined 105 = .ok (.invokestatic 138, 3) := dk_184 0 138 (dk_at dksX1_joined_4 14 rfl rfl)
theorem dX1_joined_108 : decode cX1_joined 108 = .ok (.lastore, 1) := dk_80 (dk_at dksX1_joined_4 17 rfl rfl)
theorem dX1_joined_109 : decode cX1_joined 109 = .ok (.iinc 4 1, 3) := dk_132 4 1 (dk_at dksX1_joined_4 18 rfl rfl)
theorem dX1_joined_112 : decode cX1_joined 112 = .ok (.goto (-38), 3) := dk_167 255 218 (dk_at dksX1_joined_4 21 rfl rfl)
theorem dX1_joined_115 : decode cX1_joined 115 = .ok (.aload_n 3, 1) := dk_45 (dk_at dksX1_joined_5 0 rfl rfl)
theorem dX1_joined_116 : decode cX1_joined 116 = .ok (.areturn, 1) := dk_176 (dk_at dksX1_joined_5 1 rfl rfl)
abbrev cX1_like : ByteArray := prog_1_method_3_code
def yX1_like : MethodName := ⟨RX1, "like", "(LLevelScores$Score;LLevelScores$Score;)V"⟩
def dkwX1_like_0 : List UInt8 := [42, 43, 182, 0, 43, 43, 42, 182, 0, 43, 177]
abbrev dktX1_like_0 : List UInt8 := dkwX1_like_0 ++ []
theorem dksX1_like_0 : cX1_like.data.toList.drop 0 = dktX1_like_0 := by decide +kernel
theorem dX1_like_0 : decode cX1_like 0 = .ok (.aload_n 0, 1) := dk_42 (dk_at dksX1_like_0 0 rfl rfl)
theorem dX1_like_1 : decode cX1_like 1 = .ok (.aload_n 1, 1) := dk_43 (dk_at dksX1_like_0 1 rfl rfl)
theorem dX1_like_2 : decode cX1_like 2 = .ok (.invokevirtual 43, 3) := dk_182 0 43 (dk_at dksX1_like_0 2 rfl rfl)
theorem dX1_like_5 : decode cX1_like 5 = .ok (.aload_n 1, 1) := dk_43 (dk_at dksX1_like_0 5 rfl rfl)
theorem dX1_like_6 : decode cX1_like 6 = .ok (.aload_n 0, 1) := dk_42 (dk_at dksX1_like_0 6 rfl rfl)
theorem dX1_like_7 : decode cX1_like 7 = .ok (.invokevirtual 43, 3) := dk_182 0 43 (dk_at dksX1_like_0 7 rfl rfl)
theorem dX1_like_10 : decode cX1_like 10 = .ok (.return_, 1) := dk_177 (dk_at dksX1_like_0 10 rfl rfl)
abbrev cX1_made_2 : ByteArray := prog_1_method_13_code
def yX1_made_2 : MethodName := ⟨RX1, "made", "(IJJ)J"⟩
def dkwX1_made_2_4 : List UInt8 := [183, 0, 123, 191, 22, 5, 173]
abbrev dktX1_made_2_4 : List UInt8 := dkwX1_made_2_4 ++ []
def dkwX1_made_2_3 : List UInt8 := [127, 9, 148, 156, 0, 7, 4, 167, 0, 4, 3, 54, 7, 21, 7, 153, 0, 11, 187, 0, 121, 89]
abbrev dktX1_made_2_3 : List UInt8 := dkwX1_made_2_3 ++ dktX1_made_2_4
def dkwX1_made_2_2 : List UInt8 := [22, 5, 131, 127, 9, 148, 156, 0, 7, 4, 167, 0, 25, 3, 167, 0, 21, 31, 33, 131, 31, 22, 5, 131]
abbrev dktX1_made_2_2 : List UInt8 := dkwX1_made_2_2 ++ dktX1_made_2_3
def dkwX1_made_2_1 : List UInt8 := [154, 0, 9, 31, 33, 97, 167, 0, 6, 31, 33, 101, 55, 5, 26, 154, 0, 25, 31, 22, 5, 131, 33]
abbrev dktX1_made_2_1 : List UInt8 := dkwX1_made_2_1 ++ dktX1_made_2_2
def dkwX1_made_2_0 : List UInt8 := [26, 7, 160, 0, 9, 31, 33, 184, 0, 112, 173, 26, 8, 160, 0, 9, 31, 33, 184, 0, 118, 173, 26]
abbrev dktX1_made_2_0 : List UInt8 := dkwX1_made_2_0 ++ dktX1_made_2_1
theorem dksX1_made_2_0 : cX1_made_2.data.toList.drop 0 = dktX1_made_2_0 := by decide +kernel
theorem dksX1_made_2_1 : cX1_made_2.data.toList.drop 23 = dktX1_made_2_1 := dk_seg dksX1_made_2_0 23 rfl rfl
theorem dksX1_made_2_2 : cX1_made_2.data.toList.drop 46 = dktX1_made_2_2 := dk_seg dksX1_made_2_1 23 rfl rfl
theorem dksX1_made_2_3 : cX1_made_2.data.toList.drop 70 = dktX1_made_2_3 := dk_seg dksX1_made_2_2 24 rfl rfl
theorem dksX1_made_2_4 : cX1_made_2.data.toList.drop 92 = dktX1_made_2_4 := dk_seg dksX1_made_2_3 22 rfl rfl
theorem dX1_made_2_0 : decode cX1_made_2 0 = .ok (.iload_n 0, 1) := dk_26 (dk_at dksX1_made_2_0 0 rfl rfl)
theorem dX1_made_2_1 : decode cX1_made_2 1 = .ok (.iconst 4, 1) := dk_7 (dk_at dksX1_made_2_0 1 rfl rfl)
theorem dX1_made_2_2 : decode cX1_made_2 2 = .ok (.if_icmp .ne 9, 3) := dk_160 0 9 (dk_at dksX1_made_2_0 2 rfl rfl)
theorem dX1_made_2_5 : decode cX1_made_2 5 = .ok (.lload_n 1, 1) := dk_31 (dk_at dksX1_made_2_0 5 rfl rfl)
theorem dX1_made_2_6 : decode cX1_made_2 6 = .ok (.lload_n 3, 1) := dk_33 (dk_at dksX1_made_2_0 6 rfl rfl)
theorem dX1_made_2_7 : decode cX1_made_2 7 = .ok (.invokestatic 112, 3) := dk_184 0 112 (dk_at dksX1_made_2_0 7 rfl rfl)
theorem dX1_made_2_10 : decode cX1_made_2 10 = .ok (.lreturn, 1) := dk_173 (dk_at dksX1_made_2_0 10 rfl rfl)
theorem dX1_made_2_11 : decode cX1_made_2 11 = .ok (.iload_n 0, 1) := dk_26 (dk_at dksX1_made_2_0 11 rfl rfl)
theorem dX1_made_2_12 : decode cX1_made_2 12 = .ok (.iconst 5, 1) := dk_8 (dk_at dksX1_made_2_0 12 rfl rfl)
theorem dX1_made_2_13 : decode cX1_made_2 13 = .ok (.if_icmp .ne 9, 3) := dk_160 0 9 (dk_at dksX1_made_2_0 13 rfl rfl)
theorem dX1_made_2_16 : decode cX1_made_2 16 = .ok (.lload_n 1, 1) := dk_31 (dk_at dksX1_made_2_0 16 rfl rfl)
theorem dX1_made_2_17 : decode cX1_made_2 17 = .ok (.lload_n 3, 1) := dk_33 (dk_at dksX1_made_2_0 17 rfl rfl)
theorem dX1_made_2_18 : decode cX1_made_2 18 = .ok (.invokestatic 118, 3) := dk_184 0 118 (dk_at dksX1_made_2_0 18 rfl rfl)
theorem dX1_made_2_21 : decode cX1_made_2 21 = .ok (.lreturn, 1) := dk_173 (dk_at dksX1_made_2_0 21 rfl rfl)
theorem dX1_made_2_22 : decode cX1_made_2 22 = .ok (.iload_n 0, 1) := dk_26 (dk_at dksX1_made_2_0 22 rfl rfl)
theorem dX1_made_2_23 : decode cX1_made_2 23 = .ok (.ifCond .ne 9, 3) := dk_154 0 9 (dk_at dksX1_made_2_1 0 rfl rfl)
theorem dX1_made_2_26 : decode cX1_made_2 26 = .ok (.lload_n 1, 1) := dk_31 (dk_at dksX1_made_2_1 3 rfl rfl)
theorem dX1_made_2_27 : decode cX1_made_2 27 = .ok (.lload_n 3, 1) := dk_33 (dk_at dksX1_made_2_1 4 rfl rfl)
theorem dX1_made_2_28 : decode cX1_made_2 28 = .ok (.ladd, 1) := dk_97 (dk_at dksX1_made_2_1 5 rfl rfl)
theorem dX1_made_2_29 : decode cX1_made_2 29 = .ok (.goto 6, 3) := dk_167 0 6 (dk_at dksX1_made_2_1 6 rfl rfl)
theorem dX1_made_2_32 : decode cX1_made_2 32 = .ok (.lload_n 1, 1) := dk_31 (dk_at dksX1_made_2_1 9 rfl rfl)
theorem dX1_made_2_33 : decode cX1_made_2 33 = .ok (.lload_n 3, 1) := dk_33 (dk_at dksX1_made_2_1 10 rfl rfl)
theorem dX1_made_2_34 : decode cX1_made_2 34 = .ok (.lsub, 1) := dk_101 (dk_at dksX1_made_2_1 11 rfl rfl)
theorem dX1_made_2_35 : decode cX1_made_2 35 = .ok (.lstore 5, 2) := dk_55 5 (dk_at dksX1_made_2_1 12 rfl rfl)
theorem dX1_made_2_37 : decode cX1_made_2 37 = .ok (.iload_n 0, 1) := dk_26 (dk_at dksX1_made_2_1 14 rfl rfl)
theorem dX1_made_2_38 : decode cX1_made_2 38 = .ok (.ifCond .ne 25, 3) := dk_154 0 25 (dk_at dksX1_made_2_1 15 rfl rfl)
theorem dX1_made_2_41 : decode cX1_made_2 41 = .ok (.lload_n 1, 1) := dk_31 (dk_at dksX1_made_2_1 18 rfl rfl)
theorem dX1_made_2_42 : decode cX1_made_2 42 = .ok (.lload 5, 2) := dk_22 5 (dk_at dksX1_made_2_1 19 rfl rfl)
theorem dX1_made_2_44 : decode cX1_made_2 44 = .ok (.lxor, 1) := dk_131 (dk_at dksX1_made_2_1 21 rfl rfl)
theorem dX1_made_2_45 : decode cX1_made_2 45 = .ok (.lload_n 3, 1) := dk_33 (dk_at dksX1_made_2_1 22 rfl rfl)
theorem dX1_made_2_46 : decode cX1_made_2 46 = .ok (.lload 5, 2) := dk_22 5 (dk_at dksX1_made_2_2 0 rfl rfl)
theorem dX1_made_2_48 : decode cX1_made_2 48 = .ok (.lxor, 1) := dk_131 (dk_at dksX1_made_2_2 2 rfl rfl)
theorem dX1_made_2_49 : decode cX1_made_2 49 = .ok (.land, 1) := dk_127 (dk_at dksX1_made_2_2 3 rfl rfl)
theorem dX1_made_2_50 : decode cX1_made_2 50 = .ok (.lconst 0, 1) := dk_9 (dk_at dksX1_made_2_2 4 rfl rfl)
theorem dX1_made_2_51 : decode cX1_made_2 51 = .ok (.lcmp, 1) := dk_148 (dk_at dksX1_made_2_2 5 rfl rfl)
theorem dX1_made_2_52 : decode cX1_made_2 52 = .ok (.ifCond .ge 7, 3) := dk_156 0 7 (dk_at dksX1_made_2_2 6 rfl rfl)
theorem dX1_made_2_55 : decode cX1_made_2 55 = .ok (.iconst 1, 1) := dk_4 (dk_at dksX1_made_2_2 9 rfl rfl)
theorem dX1_made_2_56 : decode cX1_made_2 56 = .ok (.goto 25, 3) := dk_167 0 25 (dk_at dksX1_made_2_2 10 rfl rfl)
theorem dX1_made_2_59 : decode cX1_made_2 59 = .ok (.iconst 0, 1) := dk_3 (dk_at dksX1_made_2_2 13 rfl rfl)
theorem dX1_made_2_60 : decode cX1_made_2 60 = .ok (.goto 21, 3) := dk_167 0 21 (dk_at dksX1_made_2_2 14 rfl rfl)
theorem dX1_made_2_63 : decode cX1_made_2 63 = .ok (.lload_n 1, 1) := dk_31 (dk_at dksX1_made_2_2 17 rfl rfl)
theorem dX1_made_2_64 : decode cX1_made_2 64 = .ok (.lload_n 3, 1) := dk_33 (dk_at dksX1_made_2_2 18 rfl rfl)
theorem dX1_made_2_65 : decode cX1_made_2 65 = .ok (.lxor, 1) := dk_131 (dk_at dksX1_made_2_2 19 rfl rfl)
theorem dX1_made_2_66 : decode cX1_made_2 66 = .ok (.lload_n 1, 1) := dk_31 (dk_at dksX1_made_2_2 20 rfl rfl)
theorem dX1_made_2_67 : decode cX1_made_2 67 = .ok (.lload 5, 2) := dk_22 5 (dk_at dksX1_made_2_2 21 rfl rfl)
theorem dX1_made_2_69 : decode cX1_made_2 69 = .ok (.lxor, 1) := dk_131 (dk_at dksX1_made_2_2 23 rfl rfl)
theorem dX1_made_2_70 : decode cX1_made_2 70 = .ok (.land, 1) := dk_127 (dk_at dksX1_made_2_3 0 rfl rfl)
theorem dX1_made_2_71 : decode cX1_made_2 71 = .ok (.lconst 0, 1) := dk_9 (dk_at dksX1_made_2_3 1 rfl rfl)
theorem dX1_made_2_72 : decode cX1_made_2 72 = .ok (.lcmp, 1) := dk_148 (dk_at dksX1_made_2_3 2 rfl rfl)
theorem dX1_made_2_73 : decode cX1_made_2 73 = .ok (.ifCond .ge 7, 3) := dk_156 0 7 (dk_at dksX1_made_2_3 3 rfl rfl)
theorem dX1_made_2_76 : decode cX1_made_2 76 = .ok (.iconst 1, 1) := dk_4 (dk_at dksX1_made_2_3 6 rfl rfl)
theorem dX1_made_2_77 : decode cX1_made_2 77 = .ok (.goto 4, 3) := dk_167 0 4 (dk_at dksX1_made_2_3 7 rfl rfl)
theorem dX1_made_2_80 : decode cX1_made_2 80 = .ok (.iconst 0, 1) := dk_3 (dk_at dksX1_made_2_3 10 rfl rfl)
theorem dX1_made_2_81 : decode cX1_made_2 81 = .ok (.istore 7, 2) := dk_54 7 (dk_at dksX1_made_2_3 11 rfl rfl)
theorem dX1_made_2_83 : decode cX1_made_2 83 = .ok (.iload 7, 2) := dk_21 7 (dk_at dksX1_made_2_3 13 rfl rfl)
theorem dX1_made_2_85 : decode cX1_made_2 85 = .ok (.ifCond .eq 11, 3) := dk_153 0 11 (dk_at dksX1_made_2_3 15 rfl rfl)
theorem dX1_made_2_88 : decode cX1_made_2 88 = .ok (.new 121, 3) := dk_187 0 121 (dk_at dksX1_made_2_3 18 rfl rfl)
theorem dX1_made_2_91 : decode cX1_made_2 91 = .ok (.dup, 1) := dk_89 (dk_at dksX1_made_2_3 21 rfl rfl)
theorem dX1_made_2_92 : decode cX1_made_2 92 = .ok (.invokespecial 123, 3) := dk_183 0 123 (dk_at dksX1_made_2_4 0 rfl rfl)
theorem dX1_made_2_95 : decode cX1_made_2 95 = .ok (.athrow, 1) := dk_191 (dk_at dksX1_made_2_4 3 rfl rfl)
theorem dX1_made_2_96 : decode cX1_made_2 96 = .ok (.lload 5, 2) := dk_22 5 (dk_at dksX1_made_2_4 4 rfl rfl)
theorem dX1_made_2_98 : decode cX1_made_2 98 = .ok (.lreturn, 1) := dk_173 (dk_at dksX1_made_2_4 6 rfl rfl)
abbrev cX1_times : ByteArray := prog_1_method_22_code
def yX1_times : MethodName := ⟨RX1, "times", "(III)I"⟩
def dkwX1_times_2 : List UInt8 := [16, 241, 172, 58, 4, 16, 240, 172]
abbrev dktX1_times_2 : List UInt8 := dkwX1_times_2 ++ []
def dkwX1_times_1 : List UInt8 := [42, 42, 180, 0, 11, 27, 50, 28, 29, 182, 0, 179, 182, 0, 70, 172, 58, 4, 16, 245, 172, 58, 4]
abbrev dktX1_times_1 : List UInt8 := dkwX1_times_1 ++ dktX1_times_2
def dkwX1_times_0 : List UInt8 := [42, 27, 182, 0, 76, 154, 0, 6, 16, 254, 172, 42, 180, 0, 47, 16, 60, 160, 0, 6, 16, 252, 172, 42]
abbrev dktX1_times_0 : List UInt8 := dkwX1_times_0 ++ dktX1_times_1
theorem dksX1_times_0 : cX1_times.data.toList.drop 0 = dktX1_times_0 := by decide +kernel
theorem dksX1_times_1 : cX1_times.data.toList.drop 24 = dktX1_times_1 := dk_seg dksX1_times_0 24 rfl rfl
theorem dksX1_times_2 : cX1_times.data.toList.drop 47 = dktX1_times_2 := dk_seg dksX1_times_1 23 rfl rfl
theorem dX1_times_0 : decode cX1_times 0 = .ok (.aload_n 0, 1) := dk_42 (dk_at dksX1_times_0 0 rfl rfl)
theorem dX1_times_1 : decode cX1_times 1 = .ok (.iload_n 1, 1) := dk_27 (dk_at dksX1_times_0 1 rfl rfl)
theorem dX1_times_2 : decode cX1_times 2 = .ok (.invokevirtual 76, 3) := dk_182 0 76 (dk_at dksX1_times_0 2 rfl rfl)
theorem dX1_times_5 : decode cX1_times 5 = .ok (.ifCond .ne 6, 3) := dk_154 0 6 (dk_at dksX1_times_0 5 rfl rfl)
theorem dX1_times_8 : decode cX1_times 8 = .ok (.bipush (-2), 2) := dk_16 254 (dk_at dksX1_times_0 8 rfl rfl)
theorem dX1_times_10 : decode cX1_times 10 = .ok (.ireturn, 1) := dk_172 (dk_at dksX1_times_0 10 rfl rfl)
theorem dX1_times_11 : decode cX1_times 11 = .ok (.aload_n 0, 1) := dk_42 (dk_at dksX1_times_0 11 rfl rfl)
theorem dX1_times_12 : decode cX1_times 12 = .ok (.getfield 47, 3) := dk_180 0 47 (dk_at dksX1_times_0 12 rfl rfl)
theorem dX1_times_15 : decode cX1_times 15 = .ok (.bipush 60, 2) := dk_16 60 (dk_at dksX1_times_0 15 rfl rfl)
theorem dX1_times_17 : decode cX1_times 17 = .ok (.if_icmp .ne 6, 3) := dk_160 0 6 (dk_at dksX1_times_0 17 rfl rfl)
theorem dX1_times_20 : decode cX1_times 20 = .ok (.bipush (-4), 2) := dk_16 252 (dk_at dksX1_times_0 20 rfl rfl)
theorem dX1_times_22 : decode cX1_times 22 = .ok (.ireturn, 1) := dk_172 (dk_at dksX1_times_0 22 rfl rfl)
theorem dX1_times_23 : decode cX1_times 23 = .ok (.aload_n 0, 1) := dk_42 (dk_at dksX1_times_0 23 rfl rfl)
theorem dX1_times_24 : decode cX1_times 24 = .ok (.aload_n 0, 1) := dk_42 (dk_at dksX1_times_1 0 rfl rfl)
theorem dX1_times_25 : decode cX1_times 25 = .ok (.aload_n 0, 1) := dk_42 (dk_at dksX1_times_1 1 rfl rfl)
theorem dX1_times_26 : decode cX1_times 26 = .ok (.getfield 11, 3) := dk_180 0 11 (dk_at dksX1_times_1 2 rfl rfl)
theorem dX1_times_29 : decode cX1_times 29 = .ok (.iload_n 1, 1) := dk_27 (dk_at dksX1_times_1 5 rfl rfl)
theorem dX1_times_30 : decode cX1_times 30 = .ok (.aaload, 1) := dk_50 (dk_at dksX1_times_1 6 rfl rfl)
theorem dX1_times_31 : decode cX1_times 31 = .ok (.iload_n 2, 1) := dk_28 (dk_at dksX1_times_1 7 rfl rfl)
theorem dX1_times_32 : decode cX1_times 32 = .ok (.iload_n 3, 1) := dk_29 (dk_at dksX1_times_1 8 rfl rfl)
theorem dX1_times_33 : decode cX1_times 33 = .ok (.invokevirtual 179, 3) := dk_182 0 179 (dk_at dksX1_times_1 9 rfl rfl)
theorem dX1_times_36 : decode cX1_times 36 = .ok (.invokevirtual 70, 3) := dk_182 0 70 (dk_at dksX1_times_1 12 rfl rfl)
theorem dX1_times_39 : decode cX1_times 39 = .ok (.ireturn, 1) := dk_172 (dk_at dksX1_times_1 15 rfl rfl)
theorem dX1_times_40 : decode cX1_times 40 = .ok (.astore 4, 2) := dk_58 4 (dk_at dksX1_times_1 16 rfl rfl)
theorem dX1_times_42 : decode cX1_times 42 = .ok (.bipush (-11), 2) := dk_16 245 (dk_at dksX1_times_1 18 rfl rfl)
theorem dX1_times_44 : decode cX1_times 44 = .ok (.ireturn, 1) := dk_172 (dk_at dksX1_times_1 20 rfl rfl)
theorem dX1_times_45 : decode cX1_times 45 = .ok (.astore 4, 2) := dk_58 4 (dk_at dksX1_times_1 21 rfl rfl)
theorem dX1_times_47 : decode cX1_times 47 = .ok (.bipush (-15), 2) := dk_16 241 (dk_at dksX1_times_2 0 rfl rfl)
theorem dX1_times_49 : decode cX1_times 49 = .ok (.ireturn, 1) := dk_172 (dk_at dksX1_times_2 2 rfl rfl)
theorem dX1_times_50 : decode cX1_times 50 = .ok (.astore 4, 2) := dk_58 4 (dk_at dksX1_times_2 3 rfl rfl)
theorem dX1_times_52 : decode cX1_times 52 = .ok (.bipush (-16), 2) := dk_16 240 (dk_at dksX1_times_2 5 rfl rfl)
theorem dX1_times_54 : decode cX1_times 54 = .ok (.ireturn, 1) := dk_172 (dk_at dksX1_times_2 7 rfl rfl)
abbrev cX1_portions : ByteArray := prog_1_method_21_code
def yX1_portions : MethodName := ⟨RX1, "portions", "(LLevelScores$Score;II)LLevelScores$Score;"⟩
def dkwX1_portions_2 : List UInt8 := [167, 255, 221, 25, 4, 176]
abbrev dktX1_portions_2 : List UInt8 := dkwX1_portions_2 ++ []
def dkwX1_portions_1 : List UInt8 := [180, 0, 80, 21, 5, 42, 43, 180, 0, 80, 21, 5, 47, 28, 29, 182, 0, 175, 80, 132, 5, 1]
abbrev dktX1_portions_1 : List UInt8 := dkwX1_portions_1 ++ dktX1_portions_2
def dkwX1_portions_0 : List UInt8 := [43, 182, 0, 135, 58, 4, 3, 54, 5, 21, 5, 25, 4, 180, 0, 80, 190, 162, 0, 30, 25, 4]
abbrev dktX1_portions_0 : List UInt8 := dkwX1_portions_0 ++ dktX1_portions_1
theorem dksX1_portions_0 : cX1_portions.data.toList.drop 0 = dktX1_portions_0 := by decide +kernel
theorem dksX1_portions_1 : cX1_portions.data.toList.drop 22 = dktX1_portions_1 := dk_seg dksX1_portions_0 22 rfl rfl
theorem dksX1_portions_2 : cX1_portions.data.toList.drop 44 = dktX1_portions_2 := dk_seg dksX1_portions_1 22 rfl rfl
theorem dX1_portions_0 : decode cX1_portions 0 = .ok (.aload_n 1, 1) := dk_43 (dk_at dksX1_portions_0 0 rfl rfl)
theorem dX1_portions_1 : decode cX1_portions 1 = .ok (.invokevirtual 135, 3) := dk_182 0 135 (dk_at dksX1_portions_0 1 rfl rfl)
theorem dX1_portions_4 : decode cX1_portions 4 = .ok (.astore 4, 2) := dk_58 4 (dk_at dksX1_portions_0 4 rfl rfl)
theorem dX1_portions_6 : decode cX1_portions 6 = .ok (.iconst 0, 1) := dk_3 (dk_at dksX1_portions_0 6 rfl rfl)
theorem dX1_portions_7 : decode cX1_portions 7 = .ok (.istore 5, 2) := dk_54 5 (dk_at dksX1_portions_0 7 rfl rfl)
theorem dX1_portions_9 : decode cX1_portions 9 = .ok (.iload 5, 2) := dk_21 5 (dk_at dksX1_portions_0 9 rfl rfl)
theorem dX1_portions_11 : decode cX1_portions 11 = .ok (.aload 4, 2) := dk_25 4 (dk_at dksX1_portions_0 11 rfl rfl)
theorem dX1_portions_13 : decode cX1_portions 13 = .ok (.getfield 80, 3) := dk_180 0 80 (dk_at dksX1_portions_0 13 rfl rfl)
theorem dX1_portions_16 : decode cX1_portions 16 = .ok (.arraylength, 1) := dk_190 (dk_at dksX1_portions_0 16 rfl rfl)
theorem dX1_portions_17 : decode cX1_portions 17 = .ok (.if_icmp .ge 30, 3) := dk_162 0 30 (dk_at dksX1_portions_0 17 rfl rfl)
theorem dX1_portions_20 : decode cX1_portions 20 = .ok (.aload 4, 2) := dk_25 4 (dk_at dksX1_portions_0 20 rfl rfl)
theorem dX1_portions_22 : decode cX1_portions 22 = .ok (.getfield 80, 3) := dk_180 0 80 (dk_at dksX1_portions_1 0 rfl rfl)
theorem dX1_portions_25 : decode cX1_portions 25 = .ok (.iload 5, 2) := dk_21 5 (dk_at dksX1_portions_1 3 rfl rfl)
theorem dX1_portions_27 : decode cX1_portions 27 = .ok (.aload_n 0, 1) := dk_42 (dk_at dksX1_portions_1 5 rfl rfl)
theorem dX1_portions_28 : decode cX1_portions 28 = .ok (.aload_n 1, 1) := dk_43 (dk_at dksX1_portions_1 6 rfl rfl)
theorem dX1_portions_29 : decode cX1_portions 29 = .ok (.getfield 80, 3) := dk_180 0 80 (dk_at dksX1_portions_1 7 rfl rfl)
theorem dX1_portions_32 : decode cX1_portions 32 = .ok (.iload 5, 2) := dk_21 5 (dk_at dksX1_portions_1 10 rfl rfl)
theorem dX1_portions_34 : decode cX1_portions 34 = .ok (.laload, 1) := dk_47 (dk_at dksX1_portions_1 12 rfl rfl)
theorem dX1_portions_35 : decode cX1_portions 35 = .ok (.iload_n 2, 1) := dk_28 (dk_at dksX1_portions_1 13 rfl rfl)
theorem dX1_portions_36 : decode cX1_portions 36 = .ok (.iload_n 3, 1) := dk_29 (dk_at dksX1_portions_1 14 rfl rfl)
theorem dX1_portions_37 : decode cX1_portions 37 = .ok (.invokevirtual 175, 3) := dk_182 0 175 (dk_at dksX1_portions_1 15 rfl rfl)
theorem dX1_portions_40 : decode cX1_portions 40 = .ok (.lastore, 1) := dk_80 (dk_at dksX1_portions_1 18 rfl rfl)
theorem dX1_portions_41 : decode cX1_portions 41 = .ok (.iinc 5 1, 3) := dk_132 5 1 (dk_at dksX1_portions_1 19 rfl rfl)
theorem dX1_portions_44 : decode cX1_portions 44 = .ok (.goto (-35), 3) := dk_167 255 221 (dk_at dksX1_portions_2 0 rfl rfl)
theorem dX1_portions_47 : decode cX1_portions 47 = .ok (.aload 4, 2) := dk_25 4 (dk_at dksX1_portions_2 3 rfl rfl)
theorem dX1_portions_49 : decode cX1_portions 49 = .ok (.areturn, 1) := dk_176 (dk_at dksX1_portions_2 5 rfl rfl)
abbrev cX1_portion : ByteArray := prog_1_method_20_code
def yX1_portion : MethodName := ⟨RX1, "portion", "(JII)J"⟩
def dkwX1_portion_5 : List UInt8 := [182, 0, 171, 173]
abbrev dktX1_portion_5 : List UInt8 := dkwX1_portion_5 ++ []
def dkwX1_portion_4 : List UInt8 := [22, 7, 181, 0, 147, 42, 22, 9, 16, 32, 121, 42, 180, 0, 151, 129, 22, 5, 109, 181, 0, 151, 42]
abbrev dktX1_portion_4 : List UInt8 := dkwX1_portion_4 ++ dktX1_portion_5
def dkwX1_portion_3 : List UInt8 := [55, 9, 22, 9, 9, 148, 156, 0, 16, 22, 9, 22, 5, 97, 55, 9, 22, 7, 10, 101, 55, 7, 42]
abbrev dktX1_portion_3 : List UInt8 := dkwX1_portion_3 ++ dktX1_portion_4
def dkwX1_portion_2 : List UInt8 := [182, 0, 156, 22, 5, 117, 55, 5, 42, 180, 0, 147, 22, 5, 109, 55, 7, 42, 180, 0, 147, 22, 5, 113]
abbrev dktX1_portion_2 : List UInt8 := dkwX1_portion_2 ++ dktX1_portion_3
def dkwX1_portion_1 : List UInt8 := [156, 0, 30, 42, 42, 180, 0, 147, 117, 181, 0, 147, 42, 42, 180, 0, 151, 117, 181, 0, 151, 42]
abbrev dktX1_portion_1 : List UInt8 := dkwX1_portion_1 ++ dktX1_portion_2
def dkwX1_portion_0 : List UInt8 := [42, 182, 0, 164, 42, 31, 29, 133, 182, 0, 167, 42, 182, 0, 156, 21, 4, 133, 55, 5, 22, 5, 9, 148]
abbrev dktX1_portion_0 : List UInt8 := dkwX1_portion_0 ++ dktX1_portion_1
theorem dksX1_portion_0 : cX1_portion.data.toList.drop 0 = dktX1_portion_0 := by decide +kernel
theorem dksX1_portion_1 : cX1_portion.data.toList.drop 24 = dktX1_portion_1 := dk_seg dksX1_portion_0 24 rfl rfl
theorem dksX1_portion_2 : cX1_portion.data.toList.drop 46 = dktX1_portion_2 := dk_seg dksX1_portion_1 22 rfl rfl
theorem dksX1_portion_3 : cX1_portion.data.toList.drop 70 = dktX1_portion_3 := dk_seg dksX1_portion_2 24 rfl rfl
theorem dksX1_portion_4 : cX1_portion.data.toList.drop 93 = dktX1_portion_4 := dk_seg dksX1_portion_3 23 rfl rfl
theorem dksX1_portion_5 : cX1_portion.data.toList.drop 116 = dktX1_portion_5 := dk_seg dksX1_portion_4 23 rfl rfl
theorem dX1_portion_0 : decode cX1_portion 0 = .ok (.aload_n 0, 1) := dk_42 (dk_at dksX1_portion_0 0 rfl rfl)
theorem dX1_portion_1 : decode cX1_portion 1 = .ok (.invokevirtual 164, 3) := dk_182 0 164 (dk_at dksX1_portion_0 1 rfl rfl)
theorem dX1_portion_4 : decode cX1_portion 4 = .ok (.aload_n 0, 1) := dk_42 (dk_at dksX1_portion_0 4 rfl rfl)
theorem dX1_portion_5 : decode cX1_portion 5 = .ok (.lload_n 1, 1) := dk_31 (dk_at dksX1_portion_0 5 rfl rfl)
theorem dX1_portion_6 : decode cX1_portion 6 = .ok (.iload_n 3, 1) := dk_29 (dk_at dksX1_portion_0 6 rfl rfl)
theorem dX1_portion_7 : decode cX1_portion 7 = .ok (.i2l, 1) := dk_133 (dk_at dksX1_portion_0 7 rfl rfl)
theorem dX1_portion_8 : decode cX1_portion 8 = .ok (.invokevirtual 167, 3) := dk_182 0 167 (dk_at dksX1_portion_0 8 rfl rfl)
theorem dX1_portion_11 : decode cX1_portion 11 = .ok (.aload_n 0, 1) := dk_42 (dk_at dksX1_portion_0 11 rfl rfl)
theorem dX1_portion_12 : decode cX1_portion 12 = .ok (.invokevirtual 156, 3) := dk_182 0 156 (dk_at dksX1_portion_0 12 rfl rfl)
theorem dX1_portion_15 : decode cX1_portion 15 = .ok (.iload 4, 2) := dk_21 4 (dk_at dksX1_portion_0 15 rfl rfl)
theorem dX1_portion_17 : decode cX1_portion 17 = .ok (.i2l, 1) := dk_133 (dk_at dksX1_portion_0 17 rfl rfl)
theorem dX1_portion_18 : decode cX1_portion 18 = .ok (.lstore 5, 2) := dk_55 5 (dk_at dksX1_portion_0 18 rfl rfl)
theorem dX1_portion_20 : decode cX1_portion 20 = .ok (.lload 5, 2) := dk_22 5 (dk_at dksX1_portion_0 20 rfl rfl)
theorem dX1_portion_22 : decode cX1_portion 22 = .ok (.lconst 0, 1) := dk_9 (dk_at dksX1_portion_0 22 rfl rfl)
theorem dX1_portion_23 : decode cX1_portion 23 = .ok (.lcmp, 1) := dk_148 (dk_at dksX1_portion_0 23 rfl rfl)
theorem dX1_portion_24 : decode cX1_portion 24 = .ok (.ifCond .ge 30, 3) := dk_156 0 30 (dk_at dksX1_portion_1 0 rfl rfl)
theorem dX1_portion_27 : decode cX1_portion 27 = .ok (.aload_n 0, 1) := dk_42 (dk_at dksX1_portion_1 3 rfl rfl)
theorem dX1_portion_28 : decode cX1_portion 28 = .ok (.aload_n 0, 1) := dk_42 (dk_at dksX1_portion_1 4 rfl rfl)
theorem dX1_portion_29 : decode cX1_portion 29 = .ok (.getfield 147, 3) := dk_180 0 147 (dk_at dksX1_portion_1 5 rfl rfl)
theorem dX1_portion_32 : decode cX1_portion 32 = .ok (.lneg, 1) := dk_117 (dk_at dksX1_portion_1 8 rfl rfl)
theorem dX1_portion_33 : decode cX1_portion 33 = .ok (.putfield 147, 3) := dk_181 0 147 (dk_at dksX1_portion_1 9 rfl rfl)
theorem dX1_portion_36 : decode cX1_portion 36 = .ok (.aload_n 0, 1) := dk_42 (dk_at dksX1_portion_1 12 rfl rfl)
theorem dX1_portion_37 : decode cX1_portion 37 = .ok (.aload_n 0, 1) := dk_42 (dk_at dksX1_portion_1 13 rfl rfl)
theorem dX1_portion_38 : decode cX1_portion 38 = .ok (.getfield 151, 3) := dk_180 0 151 (dk_at dksX1_portion_1 14 rfl rfl)
theorem dX1_portion_41 : decode cX1_portion 41 = .ok (.lneg, 1) := dk_117 (dk_at dksX1_portion_1 17 rfl rfl)
theorem dX1_portion_42 : decode cX1_portion 42 = .ok (.putfield 151, 3) := dk_181 0 151 (dk_at dksX1_portion_1 18 rfl rfl)
theorem dX1_portion_45 : decode cX1_portion 45 = .ok (.aload_n 0, 1) := dk_42 (dk_at dksX1_portion_1 21 rfl rfl)
theorem dX1_portion_46 : decode cX1_portion 46 = .ok (.invokevirtual 156, 3) := dk_182 0 156 (dk_at dksX1_portion_2 0 rfl rfl)
theorem dX1_portion_49 : decode cX1_portion 49 = .ok (.lload 5, 2) := dk_22 5 (dk_at dksX1_portion_2 3 rfl rfl)
theorem dX1_portion_51 : decode cX1_portion 51 = .ok (.lneg, 1) := dk_117 (dk_at dksX1_portion_2 5 rfl rfl)
theorem dX1_portion_52 : decode cX1_portion 52 = .ok (.lstore 5, 2) := dk_55 5 (dk_at dksX1_portion_2 6 rfl rfl)
theorem dX1_portion_54 : decode cX1_portion 54 = .ok (.aload_n 0, 1) := dk_42 (dk_at dksX1_portion_2 8 rfl rfl)
theorem dX1_portion_55 : decode cX1_portion 55 = .ok (.getfield 147, 3) := dk_180 0 147 (dk_at dksX1_portion_2 9 rfl rfl)
theorem dX1_portion_58 : decode cX1_portion 58 = .ok (.lload 5, 2) := dk_22 5 (dk_at dksX1_portion_2 12 rfl rfl)
theorem dX1_portion_60 : decode cX1_portion 60 = .ok (.ldiv, 1) := dk_109 (dk_at dksX1_portion_2 14 rfl rfl)
theorem dX1_portion_61 : decode cX1_portion 61 = .ok (.lstore 7, 2) := dk_55 7 (dk_at dksX1_portion_2 15 rfl rfl)
theorem dX1_portion_63 : decode cX1_portion 63 = .ok (.aload_n 0, 1) := dk_42 (dk_at dksX1_portion_2 17 rfl rfl)
theorem dX1_portion_64 : decode cX1_portion 64 = .ok (.getfield 147, 3) := dk_180 0 147 (dk_at dksX1_portion_2 18 rfl rfl)
theorem dX1_portion_67 : decode cX1_portion 67 = .ok (.lload 5, 2) := dk_22 5 (dk_at dksX1_portion_2 21 rfl rfl)
theorem dX1_portion_69 : decode cX1_portion 69 = .ok (.lrem, 1) := dk_113 (dk_at dksX1_portion_2 23 rfl rfl)
theorem dX1_portion_70 : decode cX1_portion 70 = .ok (.lstore 9, 2) := dk_55 9 (dk_at dksX1_portion_3 0 rfl rfl)
theorem dX1_portion_72 : decode cX1_portion 72 = .ok (.lload 9, 2) := dk_22 9 (dk_at dksX1_portion_3 2 rfl rfl)
theorem dX1_portion_74 : decode cX1_portion 74 = .ok (.lconst 0, 1) := dk_9 (dk_at dksX1_portion_3 4 rfl rfl)
theorem dX1_portion_75 : decode cX1_portion 75 = .ok (.lcmp, 1) := dk_148 (dk_at dksX1_portion_3 5 rfl rfl)
theorem dX1_portion_76 : decode cX1_portion 76 = .ok (.ifCond .ge 16, 3) := dk_156 0 16 (dk_at dksX1_portion_3 6 rfl rfl)
theorem dX1_portion_79 : decode cX1_portion 79 = .ok (.lload 9, 2) := dk_22 9 (dk_at dksX1_portion_3 9 rfl rfl)
theorem dX1_portion_81 : decode cX1_portion 81 = .ok (.lload 5, 2) := dk_22 5 (dk_at dksX1_portion_3 11 rfl rfl)
theorem dX1_portion_83 : decode cX1_portion 83 = .ok (.ladd, 1) := dk_97 (dk_at dksX1_portion_3 13 rfl rfl)
theorem dX1_portion_84 : decode cX1_portion 84 = .ok (.lstore 9, 2) := dk_55 9 (dk_at dksX1_portion_3 14 rfl rfl)
theorem dX1_portion_86 : decode cX1_portion 86 = .ok (.lload 7, 2) := dk_22 7 (dk_at dksX1_portion_3 16 rfl rfl)
theorem dX1_portion_88 : decode cX1_portion 88 = .ok (.lconst 1, 1) := dk_10 (dk_at dksX1_portion_3 18 rfl rfl)
theorem dX1_portion_89 : decode cX1_portion 89 = .ok (.lsub, 1) := dk_101 (dk_at dksX1_portion_3 19 rfl rfl)
theorem dX1_portion_90 : decode cX1_portion 90 = .ok (.lstore 7, 2) := dk_55 7 (dk_at dksX1_portion_3 20 rfl rfl)
theorem dX1_portion_92 : decode cX1_portion 92 = .ok (.aload_n 0, 1) := dk_42 (dk_at dksX1_portion_3 22 rfl rfl)
theorem dX1_portion_93 : decode cX1_portion 93 = .ok (.lload 7, 2) := dk_22 7 (dk_at dksX1_portion_4 0 rfl rfl)
theorem dX1_portion_95 : decode cX1_portion 95 = .ok (.putfield 147, 3) := dk_181 0 147 (dk_at dksX1_portion_4 2 rfl rfl)
theorem dX1_portion_98 : decode cX1_portion 98 = .ok (.aload_n 0, 1) := dk_42 (dk_at dksX1_portion_4 5 rfl rfl)
theorem dX1_portion_99 : decode cX1_portion 99 = .ok (.lload 9, 2) := dk_22 9 (dk_at dksX1_portion_4 6 rfl rfl)
theorem dX1_portion_101 : decode cX1_portion 101 = .ok (.bipush 32, 2) := dk_16 32 (dk_at dksX1_portion_4 8 rfl rfl)
theorem dX1_portion_103 : decode cX1_portion 103 = .ok (.lshl, 1) := dk_121 (dk_at dksX1_portion_4 10 rfl rfl)
theorem dX1_portion_104 : decode cX1_portion 104 = .ok (.aload_n 0, 1) := dk_42 (dk_at dksX1_portion_4 11 rfl rfl)
theorem dX1_portion_105 : decode cX1_portion 105 = .ok (.getfield 151, 3) := dk_180 0 151 (dk_at dksX1_portion_4 12 rfl rfl)
theorem dX1_portion_108 : decode cX1_portion 108 = .ok (.lor, 1) := dk_129 (dk_at dksX1_portion_4 15 rfl rfl)
theorem dX1_portion_109 : decode cX1_portion 109 = .ok (.lload 5, 2) := dk_22 5 (dk_at dksX1_portion_4 16 rfl rfl)
theorem dX1_portion_111 : decode cX1_portion 111 = .ok (.ldiv, 1) := dk_109 (dk_at dksX1_portion_4 18 rfl rfl)
theorem dX1_portion_112 : decode cX1_portion 112 = .ok (.putfield 151, 3) := dk_181 0 151 (dk_at dksX1_portion_4 19 rfl rfl)
theorem dX1_portion_115 : decode cX1_portion 115 = .ok (.aload_n 0, 1) := dk_42 (dk_at dksX1_portion_4 22 rfl rfl)
theorem dX1_portion_116 : decode cX1_portion 116 = .ok (.invokevirtual 171, 3) := dk_182 0 171 (dk_at dksX1_portion_5 0 rfl rfl)
theorem dX1_portion_119 : decode cX1_portion 119 = .ok (.lreturn, 1) := dk_173 (dk_at dksX1_portion_5 3 rfl rfl)
abbrev cX1_clearWide : ByteArray := prog_1_method_18_code
def yX1_clearWide : MethodName := ⟨RX1, "clearWide", "()V"⟩
def dkwX1_clearWide_0 : List UInt8 := [42, 9, 181, 0, 147, 42, 9, 181, 0, 151, 177]
abbrev dktX1_clearWide_0 : List UInt8 := dkwX1_clearWide_0 ++ []
theorem dksX1_clearWide_0 : cX1_clearWide.data.toList.drop 0 = dktX1_clearWide_0 := by decide +kernel
theorem dX1_clearWide_0 : decode cX1_clearWide 0 = .ok (.aload_n 0, 1) := dk_42 (dk_at dksX1_clearWide_0 0 rfl rfl)
theorem dX1_clearWide_1 : decode cX1_clearWide 1 = .ok (.lconst 0, 1) := dk_9 (dk_at dksX1_clearWide_0 1 rfl rfl)
theorem dX1_clearWide_2 : decode cX1_clearWide 2 = .ok (.putfield 147, 3) := dk_181 0 147 (dk_at dksX1_clearWide_0 2 rfl rfl)
theorem dX1_clearWide_5 : decode cX1_clearWide 5 = .ok (.aload_n 0, 1) := dk_42 (dk_at dksX1_clearWide_0 5 rfl rfl)
theorem dX1_clearWide_6 : decode cX1_clearWide 6 = .ok (.lconst 0, 1) := dk_9 (dk_at dksX1_clearWide_0 6 rfl rfl)
theorem dX1_clearWide_7 : decode cX1_clearWide 7 = .ok (.putfield 151, 3) := dk_181 0 151 (dk_at dksX1_clearWide_0 7 rfl rfl)
theorem dX1_clearWide_10 : decode cX1_clearWide 10 = .ok (.return_, 1) := dk_177 (dk_at dksX1_clearWide_0 10 rfl rfl)
abbrev cX1_addTimes : ByteArray := prog_1_method_19_code
def yX1_addTimes : MethodName := ⟨RX1, "addTimes", "(JJ)V"⟩
def dkwX1_addTimes_1 : List UInt8 := [127, 33, 105, 97, 181, 0, 151, 177]
abbrev dktX1_addTimes_1 : List UInt8 := dkwX1_addTimes_1 ++ []
def dkwX1_addTimes_0 : List UInt8 := [42, 89, 180, 0, 147, 31, 16, 32, 123, 33, 105, 97, 181, 0, 147, 42, 89, 180, 0, 151, 31, 20, 0, 154]
abbrev dktX1_addTimes_0 : List UInt8 := dkwX1_addTimes_0 ++ dktX1_addTimes_1
theorem dksX1_addTimes_0 : cX1_addTimes.data.toList.drop 0 = dktX1_addTimes_0 := by decide +kernel
theorem dksX1_addTimes_1 : cX1_addTimes.data.toList.drop 24 = dktX1_addTimes_1 := dk_seg dksX1_addTimes_0 24 rfl rfl
theorem dX1_addTimes_0 : decode cX1_addTimes 0 = .ok (.aload_n 0, 1) := dk_42 (dk_at dksX1_addTimes_0 0 rfl rfl)
theorem dX1_addTimes_1 : decode cX1_addTimes 1 = .ok (.dup, 1) := dk_89 (dk_at dksX1_addTimes_0 1 rfl rfl)
theorem dX1_addTimes_2 : decode cX1_addTimes 2 = .ok (.getfield 147, 3) := dk_180 0 147 (dk_at dksX1_addTimes_0 2 rfl rfl)
theorem dX1_addTimes_5 : decode cX1_addTimes 5 = .ok (.lload_n 1, 1) := dk_31 (dk_at dksX1_addTimes_0 5 rfl rfl)
theorem dX1_addTimes_6 : decode cX1_addTimes 6 = .ok (.bipush 32, 2) := dk_16 32 (dk_at dksX1_addTimes_0 6 rfl rfl)
theorem dX1_addTimes_8 : decode cX1_addTimes 8 = .ok (.lshr, 1) := dk_123 (dk_at dksX1_addTimes_0 8 rfl rfl)
theorem dX1_addTimes_9 : decode cX1_addTimes 9 = .ok (.lload_n 3, 1) := dk_33 (dk_at dksX1_addTimes_0 9 rfl rfl)
theorem dX1_addTimes_10 : decode cX1_addTimes 10 = .ok (.lmul, 1) := dk_105 (dk_at dksX1_addTimes_0 10 rfl rfl)
theorem dX1_addTimes_11 : decode cX1_addTimes 11 = .ok (.ladd, 1) := dk_97 (dk_at dksX1_addTimes_0 11 rfl rfl)
theorem dX1_addTimes_12 : decode cX1_addTimes 12 = .ok (.putfield 147, 3) := dk_181 0 147 (dk_at dksX1_addTimes_0 12 rfl rfl)
theorem dX1_addTimes_15 : decode cX1_addTimes 15 = .ok (.aload_n 0, 1) := dk_42 (dk_at dksX1_addTimes_0 15 rfl rfl)
theorem dX1_addTimes_16 : decode cX1_addTimes 16 = .ok (.dup, 1) := dk_89 (dk_at dksX1_addTimes_0 16 rfl rfl)
theorem dX1_addTimes_17 : decode cX1_addTimes 17 = .ok (.getfield 151, 3) := dk_180 0 151 (dk_at dksX1_addTimes_0 17 rfl rfl)
theorem dX1_addTimes_20 : decode cX1_addTimes 20 = .ok (.lload_n 1, 1) := dk_31 (dk_at dksX1_addTimes_0 20 rfl rfl)
theorem dX1_addTimes_21 : decode cX1_addTimes 21 = .ok (.ldc2_w 154, 3) := dk_20 0 154 (dk_at dksX1_addTimes_0 21 rfl rfl)
theorem dX1_addTimes_24 : decode cX1_addTimes 24 = .ok (.land, 1) := dk_127 (dk_at dksX1_addTimes_1 0 rfl rfl)
theorem dX1_addTimes_25 : decode cX1_addTimes 25 = .ok (.lload_n 3, 1) := dk_33 (dk_at dksX1_addTimes_1 1 rfl rfl)
theorem dX1_addTimes_26 : decode cX1_addTimes 26 = .ok (.lmul, 1) := dk_105 (dk_at dksX1_addTimes_1 2 rfl rfl)
theorem dX1_addTimes_27 : decode cX1_addTimes 27 = .ok (.ladd, 1) := dk_97 (dk_at dksX1_addTimes_1 3 rfl rfl)
theorem dX1_addTimes_28 : decode cX1_addTimes 28 = .ok (.putfield 151, 3) := dk_181 0 151 (dk_at dksX1_addTimes_1 4 rfl rfl)
theorem dX1_addTimes_31 : decode cX1_addTimes 31 = .ok (.return_, 1) := dk_177 (dk_at dksX1_addTimes_1 7 rfl rfl)
abbrev cX1_level : ByteArray := prog_1_method_16_code
def yX1_level : MethodName := ⟨RX1, "level", "()V"⟩
def dkwX1_level_1 : List UInt8 := [127, 181, 0, 151, 177]
abbrev dktX1_level_1 : List UInt8 := dkwX1_level_1 ++ []
def dkwX1_level_0 : List UInt8 := [42, 89, 180, 0, 147, 42, 180, 0, 151, 16, 32, 123, 97, 181, 0, 147, 42, 89, 180, 0, 151, 20, 0, 154]
abbrev dktX1_level_0 : List UInt8 := dkwX1_level_0 ++ dktX1_level_1
theorem dksX1_level_0 : cX1_level.data.toList.drop 0 = dktX1_level_0 := by decide +kernel
theorem dksX1_level_1 : cX1_level.data.toList.drop 24 = dktX1_level_1 := dk_seg dksX1_level_0 24 rfl rfl
theorem dX1_level_0 : decode cX1_level 0 = .ok (.aload_n 0, 1) := dk_42 (dk_at dksX1_level_0 0 rfl rfl)
theorem dX1_level_1 : decode cX1_level 1 = .ok (.dup, 1) := dk_89 (dk_at dksX1_level_0 1 rfl rfl)
theorem dX1_level_2 : decode cX1_level 2 = .ok (.getfield 147, 3) := dk_180 0 147 (dk_at dksX1_level_0 2 rfl rfl)
theorem dX1_level_5 : decode cX1_level 5 = .ok (.aload_n 0, 1) := dk_42 (dk_at dksX1_level_0 5 rfl rfl)
theorem dX1_level_6 : decode cX1_level 6 = .ok (.getfield 151, 3) := dk_180 0 151 (dk_at dksX1_level_0 6 rfl rfl)
theorem dX1_level_9 : decode cX1_level 9 = .ok (.bipush 32, 2) := dk_16 32 (dk_at dksX1_level_0 9 rfl rfl)
theorem dX1_level_11 : decode cX1_level 11 = .ok (.lshr, 1) := dk_123 (dk_at dksX1_level_0 11 rfl rfl)
theorem dX1_level_12 : decode cX1_level 12 = .ok (.ladd, 1) := dk_97 (dk_at dksX1_level_0 12 rfl rfl)
theorem dX1_level_13 : decode cX1_level 13 = .ok (.putfield 147, 3) := dk_181 0 147 (dk_at dksX1_level_0 13 rfl rfl)
theorem dX1_level_16 : decode cX1_level 16 = .ok (.aload_n 0, 1) := dk_42 (dk_at dksX1_level_0 16 rfl rfl)
theorem dX1_level_17 : decode cX1_level 17 = .ok (.dup, 1) := dk_89 (dk_at dksX1_level_0 17 rfl rfl)
theorem dX1_level_18 : decode cX1_level 18 = .ok (.getfield 151, 3) := dk_180 0 151 (dk_at dksX1_level_0 18 rfl rfl)
theorem dX1_level_21 : decode cX1_level 21 = .ok (.ldc2_w 154, 3) := dk_20 0 154 (dk_at dksX1_level_0 21 rfl rfl)
theorem dX1_level_24 : decode cX1_level 24 = .ok (.land, 1) := dk_127 (dk_at dksX1_level_1 0 rfl rfl)
theorem dX1_level_25 : decode cX1_level 25 = .ok (.putfield 151, 3) := dk_181 0 151 (dk_at dksX1_level_1 1 rfl rfl)
theorem dX1_level_28 : decode cX1_level 28 = .ok (.return_, 1) := dk_177 (dk_at dksX1_level_1 4 rfl rfl)
abbrev cX1_narrow : ByteArray := prog_1_method_17_code
def yX1_narrow : MethodName := ⟨RX1, "narrow", "()J"⟩
def dkwX1_narrow_1 : List UInt8 := [158, 0, 11, 187, 0, 121, 89, 183, 0, 123, 191, 42, 180, 0, 147, 16, 32, 121, 42, 180, 0, 151, 129, 173]
abbrev dktX1_narrow_1 : List UInt8 := dkwX1_narrow_1 ++ []
def dkwX1_narrow_0 : List UInt8 := [42, 182, 0, 156, 42, 180, 0, 147, 20, 0, 160, 148, 155, 0, 14, 42, 180, 0, 147, 20, 0, 162, 148]
abbrev dktX1_narrow_0 : List UInt8 := dkwX1_narrow_0 ++ dktX1_narrow_1
theorem dksX1_narrow_0 : cX1_narrow.data.toList.drop 0 = dktX1_narrow_0 := by decide +kernel
theorem dksX1_narrow_1 : cX1_narrow.data.toList.drop 23 = dktX1_narrow_1 := dk_seg dksX1_narrow_0 23 rfl rfl
theorem dX1_narrow_0 : decode cX1_narrow 0 = .ok (.aload_n 0, 1) := dk_42 (dk_at dksX1_narrow_0 0 rfl rfl)
theorem dX1_narrow_1 : decode cX1_narrow 1 = .ok (.invokevirtual 156, 3) := dk_182 0 156 (dk_at dksX1_narrow_0 1 rfl rfl)
theorem dX1_narrow_4 : decode cX1_narrow 4 = .ok (.aload_n 0, 1) := dk_42 (dk_at dksX1_narrow_0 4 rfl rfl)
theorem dX1_narrow_5 : decode cX1_narrow 5 = .ok (.getfield 147, 3) := dk_180 0 147 (dk_at dksX1_narrow_0 5 rfl rfl)
theorem dX1_narrow_8 : decode cX1_narrow 8 = .ok (.ldc2_w 160, 3) := dk_20 0 160 (dk_at dksX1_narrow_0 8 rfl rfl)
theorem dX1_narrow_11 : decode cX1_narrow 11 = .ok (.lcmp, 1) := dk_148 (dk_at dksX1_narrow_0 11 rfl rfl)
theorem dX1_narrow_12 : decode cX1_narrow 12 = .ok (.ifCond .lt 14, 3) := dk_155 0 14 (dk_at dksX1_narrow_0 12 rfl rfl)
theorem dX1_narrow_15 : decode cX1_narrow 15 = .ok (.aload_n 0, 1) := dk_42 (dk_at dksX1_narrow_0 15 rfl rfl)
theorem dX1_narrow_16 : decode cX1_narrow 16 = .ok (.getfield 147, 3) := dk_180 0 147 (dk_at dksX1_narrow_0 16 rfl rfl)
theorem dX1_narrow_19 : decode cX1_narrow 19 = .ok (.ldc2_w 162, 3) := dk_20 0 162 (dk_at dksX1_narrow_0 19 rfl rfl)
theorem dX1_narrow_22 : decode cX1_narrow 22 = .ok (.lcmp, 1) := dk_148 (dk_at dksX1_narrow_0 22 rfl rfl)
theorem dX1_narrow_23 : decode cX1_narrow 23 = .ok (.ifCond .le 11, 3) := dk_158 0 11 (dk_at dksX1_narrow_1 0 rfl rfl)
theorem dX1_narrow_26 : decode cX1_narrow 26 = .ok (.new 121, 3) := dk_187 0 121 (dk_at dksX1_narrow_1 3 rfl rfl)
theorem dX1_narrow_29 : decode cX1_narrow 29 = .ok (.dup, 1) := dk_89 (dk_at dksX1_narrow_1 6 rfl rfl)
theorem dX1_narrow_30 : decode cX1_narrow 30 = .ok (.invokespecial 123, 3) := dk_183 0 123 (dk_at dksX1_narrow_1 7 rfl rfl)
theorem dX1_narrow_33 : decode cX1_narrow 33 = .ok (.athrow, 1) := dk_191 (dk_at dksX1_narrow_1 10 rfl rfl)
theorem dX1_narrow_34 : decode cX1_narrow 34 = .ok (.aload_n 0, 1) := dk_42 (dk_at dksX1_narrow_1 11 rfl rfl)
theorem dX1_narrow_35 : decode cX1_narrow 35 = .ok (.getfield 147, 3) := dk_180 0 147 (dk_at dksX1_narrow_1 12 rfl rfl)
theorem dX1_narrow_38 : decode cX1_narrow 38 = .ok (.bipush 32, 2) := dk_16 32 (dk_at dksX1_narrow_1 15 rfl rfl)
theorem dX1_narrow_40 : decode cX1_narrow 40 = .ok (.lshl, 1) := dk_121 (dk_at dksX1_narrow_1 17 rfl rfl)
theorem dX1_narrow_41 : decode cX1_narrow 41 = .ok (.aload_n 0, 1) := dk_42 (dk_at dksX1_narrow_1 18 rfl rfl)
theorem dX1_narrow_42 : decode cX1_narrow 42 = .ok (.getfield 151, 3) := dk_180 0 151 (dk_at dksX1_narrow_1 19 rfl rfl)
theorem dX1_narrow_45 : decode cX1_narrow 45 = .ok (.lor, 1) := dk_129 (dk_at dksX1_narrow_1 22 rfl rfl)
theorem dX1_narrow_46 : decode cX1_narrow 46 = .ok (.lreturn, 1) := dk_173 (dk_at dksX1_narrow_1 23 rfl rfl)
abbrev cX1_order : ByteArray := prog_1_method_23_code
def yX1_order : MethodName := ⟨RX1, "order", "(II)I"⟩
def dkwX1_order_3 : List UInt8 := [153, 0, 7, 6, 167, 0, 4, 5, 172]
abbrev dktX1_order_3 : List UInt8 := dkwX1_order_3 ++ []
def dkwX1_order_2 : List UInt8 := [58, 5, 16, 244, 172, 45, 25, 4, 182, 0, 128, 153, 0, 7, 4, 167, 0, 17, 25, 4, 45, 182, 0, 128]
abbrev dktX1_order_2 : List UInt8 := dkwX1_order_2 ++ dktX1_order_3
def dkwX1_order_1 : List UInt8 := [50, 78, 42, 180, 0, 11, 28, 50, 58, 4, 45, 25, 4, 184, 0, 124, 167, 0, 13, 58, 5, 16, 245, 172]
abbrev dktX1_order_1 : List UInt8 := dkwX1_order_1 ++ dktX1_order_2
def dkwX1_order_0 : List UInt8 := [42, 27, 182, 0, 76, 153, 0, 11, 42, 28, 182, 0, 76, 154, 0, 6, 16, 254, 172, 42, 180, 0, 11, 27]
abbrev dktX1_order_0 : List UInt8 := dkwX1_order_0 ++ dktX1_order_1
theorem dksX1_order_0 : cX1_order.data.toList.drop 0 = dktX1_order_0 := by decide +kernel
theorem dksX1_order_1 : cX1_order.data.toList.drop 24 = dktX1_order_1 := dk_seg dksX1_order_0 24 rfl rfl
theorem dksX1_order_2 : cX1_order.data.toList.drop 48 = dktX1_order_2 := dk_seg dksX1_order_1 24 rfl rfl
theorem dksX1_order_3 : cX1_order.data.toList.drop 72 = dktX1_order_3 := dk_seg dksX1_order_2 24 rfl rfl
theorem dX1_order_0 : decode cX1_order 0 = .ok (.aload_n 0, 1) := dk_42 (dk_at dksX1_order_0 0 rfl rfl)
theorem dX1_order_1 : decode cX1_order 1 = .ok (.iload_n 1, 1) := dk_27 (dk_at dksX1_order_0 1 rfl rfl)
theorem dX1_order_2 : decode cX1_order 2 = .ok (.invokevirtual 76, 3) := dk_182 0 76 (dk_at dksX1_order_0 2 rfl rfl)
theorem dX1_order_5 : decode cX1_order 5 = .ok (.ifCond .eq 11, 3) := dk_153 0 11 (dk_at dksX1_order_0 5 rfl rfl)
theorem dX1_order_8 : decode cX1_order 8 = .ok (.aload_n 0, 1) := dk_42 (dk_at dksX1_order_0 8 rfl rfl)
theorem dX1_order_9 : decode cX1_order 9 = .ok (.iload_n 2, 1) := dk_28 (dk_at dksX1_order_0 9 rfl rfl)
theorem dX1_order_10 : decode cX1_order 10 = .ok (.invokevirtual 76, 3) := dk_182 0 76 (dk_at dksX1_order_0 10 rfl rfl)
theorem dX1_order_13 : decode cX1_order 13 = .ok (.ifCond .ne 6, 3) := dk_154 0 6 (dk_at dksX1_order_0 13 rfl rfl)
theorem dX1_order_16 : decode cX1_order 16 = .ok (.bipush (-2), 2) := dk_16 254 (dk_at dksX1_order_0 16 rfl rfl)
theorem dX1_order_18 : decode cX1_order 18 = .ok (.ireturn, 1) := dk_172 (dk_at dksX1_order_0 18 rfl rfl)
theorem dX1_order_19 : decode cX1_order 19 = .ok (.aload_n 0, 1) := dk_42 (dk_at dksX1_order_0 19 rfl rfl)
theorem dX1_order_20 : decode cX1_order 20 = .ok (.getfield 11, 3) := dk_180 0 11 (dk_at dksX1_order_0 20 rfl rfl)
theorem dX1_order_23 : decode cX1_order 23 = .ok (.iload_n 1, 1) := dk_27 (dk_at dksX1_order_0 23 rfl rfl)
theorem dX1_order_24 : decode cX1_order 24 = .ok (.aaload, 1) := dk_50 (dk_at dksX1_order_1 0 rfl rfl)
theorem dX1_order_25 : decode cX1_order 25 = .ok (.astore_n 3, 1) := dk_78 (dk_at dksX1_order_1 1 rfl rfl)
theorem dX1_order_26 : decode cX1_order 26 = .ok (.aload_n 0, 1) := dk_42 (dk_at dksX1_order_1 2 rfl rfl)
theorem dX1_order_27 : decode cX1_order 27 = .ok (.getfield 11, 3) := dk_180 0 11 (dk_at dksX1_order_1 3 rfl rfl)
theorem dX1_order_30 : decode cX1_order 30 = .ok (.iload_n 2, 1) := dk_28 (dk_at dksX1_order_1 6 rfl rfl)
theorem dX1_order_31 : decode cX1_order 31 = .ok (.aaload, 1) := dk_50 (dk_at dksX1_order_1 7 rfl rfl)
theorem dX1_order_32 : decode cX1_order 32 = .ok (.astore 4, 2) := dk_58 4 (dk_at dksX1_order_1 8 rfl rfl)
theorem dX1_order_34 : decode cX1_order 34 = .ok (.aload_n 3, 1) := dk_45 (dk_at dksX1_order_1 10 rfl rfl)
theorem dX1_order_35 : decode cX1_order 35 = .ok (.aload 4, 2) := dk_25 4 (dk_at dksX1_order_1 11 rfl rfl)
theorem dX1_order_37 : decode cX1_order 37 = .ok (.invokestatic 124, 3) := dk_184 0 124 (dk_at dksX1_order_1 13 rfl rfl)
theorem dX1_order_40 : decode cX1_order 40 = .ok (.goto 13, 3) := dk_167 0 13 (dk_at dksX1_order_1 16 rfl rfl)
theorem dX1_order_43 : decode cX1_order 43 = .ok (.astore 5, 2) := dk_58 5 (dk_at dksX1_order_1 19 rfl rfl)
theorem dX1_order_45 : decode cX1_order 45 = .ok (.bipush (-11), 2) := dk_16 245 (dk_at dksX1_order_1 21 rfl rfl)
theorem dX1_order_47 : decode cX1_order 47 = .ok (.ireturn, 1) := dk_172 (dk_at dksX1_order_1 23 rfl rfl)
theorem dX1_order_48 : decode cX1_order 48 = .ok (.astore 5, 2) := dk_58 5 (dk_at dksX1_order_2 0 rfl rfl)
theorem dX1_order_50 : decode cX1_order 50 = .ok (.bipush (-12), 2) := dk_16 244 (dk_at dksX1_order_2 2 rfl rfl)
theorem dX1_order_52 : decode cX1_order 52 = .ok (.ireturn, 1) := dk_172 (dk_at dksX1_order_2 4 rfl rfl)
theorem dX1_order_53 : decode cX1_order 53 = .ok (.aload_n 3, 1) := dk_45 (dk_at dksX1_order_2 5 rfl rfl)
theorem dX1_order_54 : decode cX1_order 54 = .ok (.aload 4, 2) := dk_25 4 (dk_at dksX1_order_2 6 rfl rfl)
theorem dX1_order_56 : decode cX1_order 56 = .ok (.invokevirtual 128, 3) := dk_182 0 128 (dk_at dksX1_order_2 8 rfl rfl)
theorem dX1_order_59 : decode cX1_order 59 = .ok (.ifCond .eq 7, 3) := dk_153 0 7 (dk_at dksX1_order_2 11 rfl rfl)
theorem dX1_order_62 : decode cX1_order 62 = .ok (.iconst 1, 1) := dk_4 (dk_at dksX1_order_2 14 rfl rfl)
theorem dX1_order_63 : decode cX1_order 63 = .ok (.goto 17, 3) := dk_167 0 17 (dk_at dksX1_order_2 15 rfl rfl)
theorem dX1_order_66 : decode cX1_order 66 = .ok (.aload 4, 2) := dk_25 4 (dk_at dksX1_order_2 18 rfl rfl)
theorem dX1_order_68 : decode cX1_order 68 = .ok (.aload_n 3, 1) := dk_45 (dk_at dksX1_order_2 20 rfl rfl)
theorem dX1_order_69 : decode cX1_order 69 = .ok (.invokevirtual 128, 3) := dk_182 0 128 (dk_at dksX1_order_2 21 rfl rfl)
theorem dX1_order_72 : decode cX1_order 72 = .ok (.ifCond .eq 7, 3) := dk_153 0 7 (dk_at dksX1_order_3 0 rfl rfl)
theorem dX1_order_75 : decode cX1_order 75 = .ok (.iconst 3, 1) := dk_6 (dk_at dksX1_order_3 3 rfl rfl)
theorem dX1_order_76 : decode cX1_order 76 = .ok (.goto 4, 3) := dk_167 0 4 (dk_at dksX1_order_3 4 rfl rfl)
theorem dX1_order_79 : decode cX1_order 79 = .ok (.iconst 2, 1) := dk_5 (dk_at dksX1_order_3 7 rfl rfl)
theorem dX1_order_80 : decode cX1_order 80 = .ok (.ireturn, 1) := dk_172 (dk_at dksX1_order_3 8 rfl rfl)
abbrev cX1_put : ByteArray := prog_1_method_24_code
def yX1_put : MethodName := ⟨RX1, "put", "(I)I"⟩
def dkwX1_put_2 : List UInt8 := [42, 180, 0, 185, 172]
abbrev dktX1_put_2 : List UInt8 := dkwX1_put_2 ++ []
def dkwX1_put_1 : List UInt8 := [16, 252, 172, 42, 180, 0, 15, 42, 180, 0, 185, 27, 145, 84, 42, 89, 180, 0, 185, 4, 96, 181, 0, 185]
abbrev dktX1_put_1 : List UInt8 := dkwX1_put_1 ++ dktX1_put_2
def dkwX1_put_0 : List UInt8 := [27, 3, 16, 127, 184, 0, 51, 154, 0, 6, 16, 253, 172, 42, 180, 0, 185, 17, 1, 44, 160, 0, 6]
abbrev dktX1_put_0 : List UInt8 := dkwX1_put_0 ++ dktX1_put_1
theorem dksX1_put_0 : cX1_put.data.toList.drop 0 = dktX1_put_0 := by decide +kernel
theorem dksX1_put_1 : cX1_put.data.toList.drop 23 = dktX1_put_1 := dk_seg dksX1_put_0 23 rfl rfl
theorem dksX1_put_2 : cX1_put.data.toList.drop 47 = dktX1_put_2 := dk_seg dksX1_put_1 24 rfl rfl
theorem dX1_put_0 : decode cX1_put 0 = .ok (.iload_n 1, 1) := dk_27 (dk_at dksX1_put_0 0 rfl rfl)
theorem dX1_put_1 : decode cX1_put 1 = .ok (.iconst 0, 1) := dk_3 (dk_at dksX1_put_0 1 rfl rfl)
theorem dX1_put_2 : decode cX1_put 2 = .ok (.bipush 127, 2) := dk_16 127 (dk_at dksX1_put_0 2 rfl rfl)
theorem dX1_put_4 : decode cX1_put 4 = .ok (.invokestatic 51, 3) := dk_184 0 51 (dk_at dksX1_put_0 4 rfl rfl)
theorem dX1_put_7 : decode cX1_put 7 = .ok (.ifCond .ne 6, 3) := dk_154 0 6 (dk_at dksX1_put_0 7 rfl rfl)
theorem dX1_put_10 : decode cX1_put 10 = .ok (.bipush (-3), 2) := dk_16 253 (dk_at dksX1_put_0 10 rfl rfl)
theorem dX1_put_12 : decode cX1_put 12 = .ok (.ireturn, 1) := dk_172 (dk_at dksX1_put_0 12 rfl rfl)
theorem dX1_put_13 : decode cX1_put 13 = .ok (.aload_n 0, 1) := dk_42 (dk_at dksX1_put_0 13 rfl rfl)
theorem dX1_put_14 : decode cX1_put 14 = .ok (.getfield 185, 3) := dk_180 0 185 (dk_at dksX1_put_0 14 rfl rfl)
theorem dX1_put_17 : decode cX1_put 17 = .ok (.sipush 300, 3) := dk_17 1 44 (dk_at dksX1_put_0 17 rfl rfl)
theorem dX1_put_20 : decode cX1_put 20 = .ok (.if_icmp .ne 6, 3) := dk_160 0 6 (dk_at dksX1_put_0 20 rfl rfl)
theorem dX1_put_23 : decode cX1_put 23 = .ok (.bipush (-4), 2) := dk_16 252 (dk_at dksX1_put_1 0 rfl rfl)
theorem dX1_put_25 : decode cX1_put 25 = .ok (.ireturn, 1) := dk_172 (dk_at dksX1_put_1 2 rfl rfl)
theorem dX1_put_26 : decode cX1_put 26 = .ok (.aload_n 0, 1) := dk_42 (dk_at dksX1_put_1 3 rfl rfl)
theorem dX1_put_27 : decode cX1_put 27 = .ok (.getfield 15, 3) := dk_180 0 15 (dk_at dksX1_put_1 4 rfl rfl)
theorem dX1_put_30 : decode cX1_put 30 = .ok (.aload_n 0, 1) := dk_42 (dk_at dksX1_put_1 7 rfl rfl)
theorem dX1_put_31 : decode cX1_put 31 = .ok (.getfield 185, 3) := dk_180 0 185 (dk_at dksX1_put_1 8 rfl rfl)
theorem dX1_put_34 : decode cX1_put 34 = .ok (.iload_n 1, 1) := dk_27 (dk_at dksX1_put_1 11 rfl rfl)
theorem dX1_put_35 : decode cX1_put 35 = .ok (.i2b, 1) := dk_145 (dk_at dksX1_put_1 12 rfl rfl)
theorem dX1_put_36 : decode cX1_put 36 = .ok (.bastore, 1) := dk_84 (dk_at dksX1_put_1 13 rfl rfl)
theorem dX1_put_37 : decode cX1_put 37 = .ok (.aload_n 0, 1) := dk_42 (dk_at dksX1_put_1 14 rfl rfl)
theorem dX1_put_38 : decode cX1_put 38 = .ok (.dup, 1) := dk_89 (dk_at dksX1_put_1 15 rfl rfl)
theorem dX1_put_39 : decode cX1_put 39 = .ok (.getfield 185, 3) := dk_180 0 185 (dk_at dksX1_put_1 16 rfl rfl)
theorem dX1_put_42 : decode cX1_put 42 = .ok (.iconst 1, 1) := dk_4 (dk_at dksX1_put_1 19 rfl rfl)
theorem dX1_put_43 : decode cX1_put 43 = .ok (.iadd, 1) := dk_96 (dk_at dksX1_put_1 20 rfl rfl)
theorem dX1_put_44 : decode cX1_put 44 = .ok (.putfield 185, 3) := dk_181 0 185 (dk_at dksX1_put_1 21 rfl rfl)
theorem dX1_put_47 : decode cX1_put 47 = .ok (.aload_n 0, 1) := dk_42 (dk_at dksX1_put_2 0 rfl rfl)
theorem dX1_put_48 : decode cX1_put 48 = .ok (.getfield 185, 3) := dk_180 0 185 (dk_at dksX1_put_2 1 rfl rfl)
theorem dX1_put_51 : decode cX1_put 51 = .ok (.ireturn, 1) := dk_172 (dk_at dksX1_put_2 4 rfl rfl)
abbrev cX1_read : ByteArray := prog_1_method_33_code
def yX1_read : MethodName := ⟨RX1, "read", "()I"⟩
def dkwX1_read_3 : List UInt8 := [42, 180, 0, 188, 100, 60, 42, 3, 181, 0, 185, 27, 172]
abbrev dktX1_read_3 : List UInt8 := dkwX1_read_3 ++ []
def dkwX1_read_2 : List UInt8 := [180, 0, 80, 3, 44, 180, 0, 80, 190, 184, 0, 245, 42, 44, 182, 0, 70, 60, 167, 0, 12, 77, 16, 156]
abbrev dktX1_read_2 : List UInt8 := dkwX1_read_2 ++ dktX1_read_3
def dkwX1_read_1 : List UInt8 := [182, 0, 242, 77, 42, 182, 0, 196, 2, 159, 0, 7, 42, 182, 0, 203, 42, 180, 0, 39, 3, 44]
abbrev dktX1_read_1 : List UInt8 := dkwX1_read_1 ++ dktX1_read_2
def dkwX1_read_0 : List UInt8 := [42, 180, 0, 47, 16, 60, 160, 0, 11, 42, 3, 181, 0, 185, 16, 252, 172, 42, 3, 181, 0, 188, 42]
abbrev dktX1_read_0 : List UInt8 := dkwX1_read_0 ++ dktX1_read_1
theorem dksX1_read_0 : cX1_read.data.toList.drop 0 = dktX1_read_0 := by decide +kernel
theorem dksX1_read_1 : cX1_read.data.toList.drop 23 = dktX1_read_1 := dk_seg dksX1_read_0 23 rfl rfl
theorem dksX1_read_2 : cX1_read.data.toList.drop 45 = dktX1_read_2 := dk_seg dksX1_read_1 22 rfl rfl
theorem dksX1_read_3 : cX1_read.data.toList.drop 69 = dktX1_read_3 := dk_seg dksX1_read_2 24 rfl rfl
theorem dX1_read_0 : decode cX1_read 0 = .ok (.aload_n 0, 1) := dk_42 (dk_at dksX1_read_0 0 rfl rfl)
theorem dX1_read_1 : decode cX1_read 1 = .ok (.getfield 47, 3) := dk_180 0 47 (dk_at dksX1_read_0 1 rfl rfl)
theorem dX1_read_4 : decode cX1_read 4 = .ok (.bipush 60, 2) := dk_16 60 (dk_at dksX1_read_0 4 rfl rfl)
theorem dX1_read_6 : decode cX1_read 6 = .ok (.if_icmp .ne 11, 3) := dk_160 0 11 (dk_at dksX1_read_0 6 rfl rfl)
theorem dX1_read_9 : decode cX1_read 9 = .ok (.aload_n 0, 1) := dk_42 (dk_at dksX1_read_0 9 rfl rfl)
theorem dX1_read_10 : decode cX1_read 10 = .ok (.iconst 0, 1) := dk_3 (dk_at dksX1_read_0 10 rfl rfl)
theorem dX1_read_11 : decode cX1_read 11 = .ok (.putfield 185, 3) := dk_181 0 185 (dk_at dksX1_read_0 11 rfl rfl)
theorem dX1_read_14 : decode cX1_read 14 = .ok (.bipush (-4), 2) := dk_16 252 (dk_at dksX1_read_0 14 rfl rfl)
theorem dX1_read_16 : decode cX1_read 16 = .ok (.ireturn, 1) := dk_172 (dk_at dksX1_read_0 16 rfl rfl)
theorem dX1_read_17 : decode cX1_read 17 = .ok (.aload_n 0, 1) := dk_42 (dk_at dksX1_read_0 17 rfl rfl)
theorem dX1_read_18 : decode cX1_read 18 = .ok (.iconst 0, 1) := dk_3 (dk_at dksX1_read_0 18 rfl rfl)
theorem dX1_read_19 : decode cX1_read 19 = .ok (.putfield 188, 3) := dk_181 0 188 (dk_at dksX1_read_0 19 rfl rfl)
theorem dX1_read_22 : decode cX1_read 22 = .ok (.aload_n 0, 1) := dk_42 (dk_at dksX1_read_0 22 rfl rfl)
theorem dX1_read_23 : decode cX1_read 23 = .ok (.invokevirtual 242, 3) := dk_182 0 242 (dk_at dksX1_read_1 0 rfl rfl)
theorem dX1_read_26 : decode cX1_read 26 = .ok (.astore_n 2, 1) := dk_77 (dk_at dksX1_read_1 3 rfl rfl)
theorem dX1_read_27 : decode cX1_read 27 = .ok (.aload_n 0, 1) := dk_42 (dk_at dksX1_read_1 4 rfl rfl)
theorem dX1_read_28 : decode cX1_read 28 = .ok (.invokevirtual 196, 3) := dk_182 0 196 (dk_at dksX1_read_1 5 rfl rfl)
theorem dX1_read_31 : decode cX1_read 31 = .ok (.iconst (-1), 1) := dk_2 (dk_at dksX1_read_1 8 rfl rfl)
theorem dX1_read_32 : decode cX1_read 32 = .ok (.if_icmp .eq 7, 3) := dk_159 0 7 (dk_at dksX1_read_1 9 rfl rfl)
theorem dX1_read_35 : decode cX1_read 35 = .ok (.aload_n 0, 1) := dk_42 (dk_at dksX1_read_1 12 rfl rfl)
theorem dX1_read_36 : decode cX1_read 36 = .ok (.invokevirtual 203, 3) := dk_182 0 203 (dk_at dksX1_read_1 13 rfl rfl)
theorem dX1_read_39 : decode cX1_read 39 = .ok (.aload_n 0, 1) := dk_42 (dk_at dksX1_read_1 16 rfl rfl)
theorem dX1_read_40 : decode cX1_read 40 = .ok (.getfield 39, 3) := dk_180 0 39 (dk_at dksX1_read_1 17 rfl rfl)
theorem dX1_read_43 : decode cX1_read 43 = .ok (.iconst 0, 1) := dk_3 (dk_at dksX1_read_1 20 rfl rfl)
theorem dX1_read_44 : decode cX1_read 44 = .ok (.aload_n 2, 1) := dk_44 (dk_at dksX1_read_1 21 rfl rfl)
theorem dX1_read_45 : decode cX1_read 45 = .ok (.getfield 80, 3) := dk_180 0 80 (dk_at dksX1_read_2 0 rfl rfl)
theorem dX1_read_48 : decode cX1_read 48 = .ok (.iconst 0, 1) := dk_3 (dk_at dksX1_read_2 3 rfl rfl)
theorem dX1_read_49 : decode cX1_read 49 = .ok (.aload_n 2, 1) := dk_44 (dk_at dksX1_read_2 4 rfl rfl)
theorem dX1_read_50 : decode cX1_read 50 = .ok (.getfield 80, 3) := dk_180 0 80 (dk_at dksX1_read_2 5 rfl rfl)
theorem dX1_read_53 : decode cX1_read 53 = .ok (.arraylength, 1) := dk_190 (dk_at dksX1_read_2 8 rfl rfl)
theorem dX1_read_54 : decode cX1_read 54 = .ok (.invokestatic 245, 3) := dk_184 0 245 (dk_at dksX1_read_2 9 rfl rfl)
theorem dX1_read_57 : decode cX1_read 57 = .ok (.aload_n 0, 1) := dk_42 (dk_at dksX1_read_2 12 rfl rfl)
theorem dX1_read_58 : decode cX1_read 58 = .ok (.aload_n 2, 1) := dk_44 (dk_at dksX1_read_2 13 rfl rfl)
theorem dX1_read_59 : decode cX1_read 59 = .ok (.invokevirtual 70, 3) := dk_182 0 70 (dk_at dksX1_read_2 14 rfl rfl)
theorem dX1_read_62 : decode cX1_read 62 = .ok (.istore_n 1, 1) := dk_60 (dk_at dksX1_read_2 17 rfl rfl)
theorem dX1_read_63 : decode cX1_read 63 = .ok (.goto 12, 3) := dk_167 0 12 (dk_at dksX1_read_2 18 rfl rfl)
theorem dX1_read_66 : decode cX1_read 66 = .ok (.astore_n 2, 1) := dk_77 (dk_at dksX1_read_2 21 rfl rfl)
theorem dX1_read_67 : decode cX1_read 67 = .ok (.bipush (-100), 2) := dk_16 156 (dk_at dksX1_read_2 22 rfl rfl)
theorem dX1_read_69 : decode cX1_read 69 = .ok (.aload_n 0, 1) := dk_42 (dk_at dksX1_read_3 0 rfl rfl)
theorem dX1_read_70 : decode cX1_read 70 = .ok (.getfield 188, 3) := dk_180 0 188 (dk_at dksX1_read_3 1 rfl rfl)
theorem dX1_read_73 : decode cX1_read 73 = .ok (.isub, 1) := dk_100 (dk_at dksX1_read_3 4 rfl rfl)
theorem dX1_read_74 : decode cX1_read 74 = .ok (.istore_n 1, 1) := dk_60 (dk_at dksX1_read_3 5 rfl rfl)
theorem dX1_read_75 : decode cX1_read 75 = .ok (.aload_n 0, 1) := dk_42 (dk_at dksX1_read_3 6 rfl rfl)
theorem dX1_read_76 : decode cX1_read 76 = .ok (.iconst 0, 1) := dk_3 (dk_at dksX1_read_3 7 rfl rfl)
theorem dX1_read_77 : decode cX1_read 77 = .ok (.putfield 185, 3) := dk_181 0 185 (dk_at dksX1_read_3 8 rfl rfl)
theorem dX1_read_80 : decode cX1_read 80 = .ok (.iload_n 1, 1) := dk_27 (dk_at dksX1_read_3 11 rfl rfl)
theorem dX1_read_81 : decode cX1_read 81 = .ok (.ireturn, 1) := dk_172 (dk_at dksX1_read_3 12 rfl rfl)
abbrev cX1_text : ByteArray := prog_1_method_32_code
def yX1_text : MethodName := ⟨RX1, "text", "()LLevelScores$Score;"⟩
def dkwX1_text_4 : List UInt8 := [42, 18, 235, 182, 0, 220, 187, 0, 58, 89, 183, 0, 60, 176]
abbrev dktX1_text_4 : List UInt8 := dkwX1_text_4 ++ []
def dkwX1_text_3 : List UInt8 := [187, 0, 55, 89, 183, 0, 57, 176, 42, 18, 240, 182, 0, 220, 42, 180, 0, 39, 5, 42, 182, 0, 224, 80]
abbrev dktX1_text_3 : List UInt8 := dkwX1_text_3 ++ dktX1_text_4
def dkwX1_text_2 : List UInt8 := [180, 0, 39, 4, 42, 182, 0, 224, 80, 42, 182, 0, 196, 16, 109, 159, 0, 17, 42, 18, 235, 182, 0, 220]
abbrev dktX1_text_2 : List UInt8 := dkwX1_text_2 ++ dktX1_text_3
def dkwX1_text_1 : List UInt8 := [42, 182, 0, 196, 2, 160, 0, 11, 187, 0, 22, 89, 183, 0, 24, 176, 42, 18, 233, 182, 0, 220, 42]
abbrev dktX1_text_1 : List UInt8 := dkwX1_text_1 ++ dktX1_text_2
def dkwX1_text_0 : List UInt8 := [42, 182, 0, 196, 16, 91, 160, 0, 8, 42, 182, 0, 237, 176, 42, 180, 0, 39, 3, 42, 182, 0, 224, 80]
abbrev dktX1_text_0 : List UInt8 := dkwX1_text_0 ++ dktX1_text_1
theorem dksX1_text_0 : cX1_text.data.toList.drop 0 = dktX1_text_0 := by decide +kernel
theorem dksX1_text_1 : cX1_text.data.toList.drop 24 = dktX1_text_1 := dk_seg dksX1_text_0 24 rfl rfl
theorem dksX1_text_2 : cX1_text.data.toList.drop 47 = dktX1_text_2 := dk_seg dksX1_text_1 23 rfl rfl
theorem dksX1_text_3 : cX1_text.data.toList.drop 71 = dktX1_text_3 := dk_seg dksX1_text_2 24 rfl rfl
theorem dksX1_text_4 : cX1_text.data.toList.drop 95 = dktX1_text_4 := dk_seg dksX1_text_3 24 rfl rfl
theorem dX1_text_0 : decode cX1_text 0 = .ok (.aload_n 0, 1) := dk_42 (dk_at dksX1_text_0 0 rfl rfl)
theorem dX1_text_1 : decode cX1_text 1 = .ok (.invokevirtual 196, 3) := dk_182 0 196 (dk_at dksX1_text_0 1 rfl rfl)
theorem dX1_text_4 : decode cX1_text 4 = .ok (.bipush 91, 2) := dk_16 91 (dk_at dksX1_text_0 4 rfl rfl)
theorem dX1_text_6 : decode cX1_text 6 = .ok (.if_icmp .ne 8, 3) := dk_160 0 8 (dk_at dksX1_text_0 6 rfl rfl)
theorem dX1_text_9 : decode cX1_text 9 = .ok (.aload_n 0, 1) := dk_42 (dk_at dksX1_text_0 9 rfl rfl)
theorem dX1_text_10 : decode cX1_text 10 = .ok (.invokevirtual 237, 3) := dk_182 0 237 (dk_at dksX1_text_0 10 rfl rfl)
theorem dX1_text_13 : decode cX1_text 13 = .ok (.areturn, 1) := dk_176 (dk_at dksX1_text_0 13 rfl rfl)
theorem dX1_text_14 : decode cX1_text 14 = .ok (.aload_n 0, 1) := dk_42 (dk_at dksX1_text_0 14 rfl rfl)
theorem dX1_text_15 : decode cX1_text 15 = .ok (.getfield 39, 3) := dk_180 0 39 (dk_at dksX1_text_0 15 rfl rfl)
theorem dX1_text_18 : decode cX1_text 18 = .ok (.iconst 0, 1) := dk_3 (dk_at dksX1_text_0 18 rfl rfl)
theorem dX1_text_19 : decode cX1_text 19 = .ok (.aload_n 0, 1) := dk_42 (dk_at dksX1_text_0 19 rfl rfl)
theorem dX1_text_20 : decode cX1_text 20 = .ok (.invokevirtual 224, 3) := dk_182 0 224 (dk_at dksX1_text_0 20 rfl rfl)
theorem dX1_text_23 : decode cX1_text 23 = .ok (.lastore, 1) := dk_80 (dk_at dksX1_text_0 23 rfl rfl)
theorem dX1_text_24 : decode cX1_text 24 = .ok (.aload_n 0, 1) := dk_42 (dk_at dksX1_text_1 0 rfl rfl)
theorem dX1_text_25 : decode cX1_text 25 = .ok (.invokevirtual 196, 3) := dk_182 0 196 (dk_at dksX1_text_1 1 rfl rfl)
theorem dX1_text_28 : decode cX1_text 28 = .ok (.iconst (-1), 1) := dk_2 (dk_at dksX1_text_1 4 rfl rfl)
theorem dX1_text_29 : decode cX1_text 29 = .ok (.if_icmp .ne 11, 3) := dk_160 0 11 (dk_at dksX1_text_1 5 rfl rfl)
theorem dX1_text_32 : decode cX1_text 32 = .ok (.new 22, 3) := dk_187 0 22 (dk_at dksX1_text_1 8 rfl rfl)
theorem dX1_text_35 : decode cX1_text 35 = .ok (.dup, 1) := dk_89 (dk_at dksX1_text_1 11 rfl rfl)
theorem dX1_text_36 : decode cX1_text 36 = .ok (.invokespecial 24, 3) := dk_183 0 24 (dk_at dksX1_text_1 12 rfl rfl)
theorem dX1_text_39 : decode cX1_text 39 = .ok (.areturn, 1) := dk_176 (dk_at dksX1_text_1 15 rfl rfl)
theorem dX1_text_40 : decode cX1_text 40 = .ok (.aload_n 0, 1) := dk_42 (dk_at dksX1_text_1 16 rfl rfl)
theorem dX1_text_41 : decode cX1_text 41 = .ok (.ldc 233, 2) := dk_18 233 (dk_at dksX1_text_1 17 rfl rfl)
theorem dX1_text_43 : decode cX1_text 43 = .ok (.invokevirtual 220, 3) := dk_182 0 220 (dk_at dksX1_text_1 19 rfl rfl)
theorem dX1_text_46 : decode cX1_text 46 = .ok (.aload_n 0, 1) := dk_42 (dk_at dksX1_text_1 22 rfl rfl)
theorem dX1_text_47 : decode cX1_text 47 = .ok (.getfield 39, 3) := dk_180 0 39 (dk_at dksX1_text_2 0 rfl rfl)
theorem dX1_text_50 : decode cX1_text 50 = .ok (.iconst 1, 1) := dk_4 (dk_at dksX1_text_2 3 rfl rfl)
theorem dX1_text_51 : decode cX1_text 51 = .ok (.aload_n 0, 1) := dk_42 (dk_at dksX1_text_2 4 rfl rfl)
theorem dX1_text_52 : decode cX1_text 52 = .ok (.invokevirtual 224, 3) := dk_182 0 224 (dk_at dksX1_text_2 5 rfl rfl)
theorem dX1_text_55 : decode cX1_text 55 = .ok (.lastore, 1) := dk_80 (dk_at dksX1_text_2 8 rfl rfl)
theorem dX1_text_56 : decode cX1_text 56 = .ok (.aload_n 0, 1) := dk_42 (dk_at dksX1_text_2 9 rfl rfl)
theorem dX1_text_57 : decode cX1_text 57 = .ok (.invokevirtual 196, 3) := dk_182 0 196 (dk_at dksX1_text_2 10 rfl rfl)
theorem dX1_text_60 : decode cX1_text 60 = .ok (.bipush 109, 2) := dk_16 109 (dk_at dksX1_text_2 13 rfl rfl)
theorem dX1_text_62 : decode cX1_text 62 = .ok (.if_icmp .eq 17, 3) := dk_159 0 17 (dk_at dksX1_text_2 15 rfl rfl)
theorem dX1_text_65 : decode cX1_text 65 = .ok (.aload_n 0, 1) := dk_42 (dk_at dksX1_text_2 18 rfl rfl)
theorem dX1_text_66 : decode cX1_text 66 = .ok (.ldc 235, 2) := dk_18 235 (dk_at dksX1_text_2 19 rfl rfl)
theorem dX1_text_68 : decode cX1_text 68 = .ok (.invokevirtual 220, 3) := dk_182 0 220 (dk_at dksX1_text_2 21 rfl rfl)
theorem dX1_text_71 : decode cX1_text 71 = .ok (.new 55, 3) := dk_187 0 55 (dk_at dksX1_text_3 0 rfl rfl)
theorem dX1_text_74 : decode cX1_text 74 = .ok (.dup, 1) := dk_89 (dk_at dksX1_text_3 3 rfl rfl)
theorem dX1_text_75 : decode cX1_text 75 = .ok (.invokespecial 57, 3) := dk_183 0 57 (dk_at dksX1_text_3 4 rfl rfl)
theorem dX1_text_78 : decode cX1_text 78 = .ok (.areturn, 1) := dk_176 (dk_at dksX1_text_3 7 rfl rfl)
theorem dX1_text_79 : decode cX1_text 79 = .ok (.aload_n 0, 1) := dk_42 (dk_at dksX1_text_3 8 rfl rfl)
theorem dX1_text_80 : decode cX1_text 80 = .ok (.ldc 240, 2) := dk_18 240 (dk_at dksX1_text_3 9 rfl rfl)
theorem dX1_text_82 : decode cX1_text 82 = .ok (.invokevirtual 220, 3) := dk_182 0 220 (dk_at dksX1_text_3 11 rfl rfl)
theorem dX1_text_85 : decode cX1_text 85 = .ok (.aload_n 0, 1) := dk_42 (dk_at dksX1_text_3 14 rfl rfl)
theorem dX1_text_86 : decode cX1_text 86 = .ok (.getfield 39, 3) := dk_180 0 39 (dk_at dksX1_text_3 15 rfl rfl)
theorem dX1_text_89 : decode cX1_text 89 = .ok (.iconst 2, 1) := dk_5 (dk_at dksX1_text_3 18 rfl rfl)
theorem dX1_text_90 : decode cX1_text 90 = .ok (.aload_n 0, 1) := dk_42 (dk_at dksX1_text_3 19 rfl rfl)
theorem dX1_text_91 : decode cX1_text 91 = .ok (.invokevirtual 224, 3) := dk_182 0 224 (dk_at dksX1_text_3 20 rfl rfl)
theorem dX1_text_94 : decode cX1_text 94 = .ok (.lastore, 1) := dk_80 (dk_at dksX1_text_3 23 rfl rfl)
theorem dX1_text_95 : decode cX1_text 95 = .ok (.aload_n 0, 1) := dk_42 (dk_at dksX1_text_4 0 rfl rfl)
theorem dX1_text_96 : decode cX1_text 96 = .ok (.ldc 235, 2) := dk_18 235 (dk_at dksX1_text_4 1 rfl rfl)
theorem dX1_text_98 : decode cX1_text 98 = .ok (.invokevirtual 220, 3) := dk_182 0 220 (dk_at dksX1_text_4 3 rfl rfl)
theorem dX1_text_101 : decode cX1_text 101 = .ok (.new 58, 3) := dk_187 0 58 (dk_at dksX1_text_4 6 rfl rfl)
theorem dX1_text_104 : decode cX1_text 104 = .ok (.dup, 1) := dk_89 (dk_at dksX1_text_4 9 rfl rfl)
theorem dX1_text_105 : decode cX1_text 105 = .ok (.invokespecial 60, 3) := dk_183 0 60 (dk_at dksX1_text_4 10 rfl rfl)
theorem dX1_text_108 : decode cX1_text 108 = .ok (.areturn, 1) := dk_176 (dk_at dksX1_text_4 13 rfl rfl)
abbrev cX1_now : ByteArray := prog_1_method_25_code
def yX1_now : MethodName := ⟨RX1, "now", "()I"⟩
def dkwX1_now_1 : List UInt8 := [172]
abbrev dktX1_now_1 : List UInt8 := dkwX1_now_1 ++ []
def dkwX1_now_0 : List UInt8 := [42, 180, 0, 188, 42, 180, 0, 185, 162, 0, 15, 42, 180, 0, 15, 42, 180, 0, 188, 51, 167, 0, 4, 2]
abbrev dktX1_now_0 : List UInt8 := dkwX1_now_0 ++ dktX1_now_1
theorem dksX1_now_0 : cX1_now.data.toList.drop 0 = dktX1_now_0 := by decide +kernel
theorem dksX1_now_1 : cX1_now.data.toList.drop 24 = dktX1_now_1 := dk_seg dksX1_now_0 24 rfl rfl
theorem dX1_now_0 : decode cX1_now 0 = .ok (.aload_n 0, 1) := dk_42 (dk_at dksX1_now_0 0 rfl rfl)
theorem dX1_now_1 : decode cX1_now 1 = .ok (.getfield 188, 3) := dk_180 0 188 (dk_at dksX1_now_0 1 rfl rfl)
theorem dX1_now_4 : decode cX1_now 4 = .ok (.aload_n 0, 1) := dk_42 (dk_at dksX1_now_0 4 rfl rfl)
theorem dX1_now_5 : decode cX1_now 5 = .ok (.getfield 185, 3) := dk_180 0 185 (dk_at dksX1_now_0 5 rfl rfl)
theorem dX1_now_8 : decode cX1_now 8 = .ok (.if_icmp .ge 15, 3) := dk_162 0 15 (dk_at dksX1_now_0 8 rfl rfl)
theorem dX1_now_11 : decode cX1_now 11 = .ok (.aload_n 0, 1) := dk_42 (dk_at dksX1_now_0 11 rfl rfl)
theorem dX1_now_12 : decode cX1_now 12 = .ok (.getfield 15, 3) := dk_180 0 15 (dk_at dksX1_now_0 12 rfl rfl)
theorem dX1_now_15 : decode cX1_now 15 = .ok (.aload_n 0, 1) := dk_42 (dk_at dksX1_now_0 15 rfl rfl)
theorem dX1_now_16 : decode cX1_now 16 = .ok (.getfield 188, 3) := dk_180 0 188 (dk_at dksX1_now_0 16 rfl rfl)
theorem dX1_now_19 : decode cX1_now 19 = .ok (.baload, 1) := dk_51 (dk_at dksX1_now_0 19 rfl rfl)
theorem dX1_now_20 : decode cX1_now 20 = .ok (.goto 4, 3) := dk_167 0 4 (dk_at dksX1_now_0 20 rfl rfl)
theorem dX1_now_23 : decode cX1_now 23 = .ok (.iconst (-1), 1) := dk_2 (dk_at dksX1_now_0 23 rfl rfl)
theorem dX1_now_24 : decode cX1_now 24 = .ok (.ireturn, 1) := dk_172 (dk_at dksX1_now_1 0 rfl rfl)
abbrev cX1_bent : ByteArray := prog_1_method_31_code
def yX1_bent : MethodName := ⟨RX1, "bent", "()LLevelScores$Score;"⟩
def dkwX1_bent_1 : List UInt8 := [182, 0, 220, 187, 0, 61, 89, 27, 28, 183, 0, 63, 176]
abbrev dktX1_bent_1 : List UInt8 := dkwX1_bent_1 ++ []
def dkwX1_bent_0 : List UInt8 := [42, 3, 3, 182, 0, 229, 60, 42, 18, 233, 182, 0, 220, 42, 27, 4, 182, 0, 229, 61, 42, 18, 235]
abbrev dktX1_bent_0 : List UInt8 := dkwX1_bent_0 ++ dktX1_bent_1
theorem dksX1_bent_0 : cX1_bent.data.toList.drop 0 = dktX1_bent_0 := by decide +kernel
theorem dksX1_bent_1 : cX1_bent.data.toList.drop 23 = dktX1_bent_1 := dk_seg dksX1_bent_0 23 rfl rfl
theorem dX1_bent_0 : decode cX1_bent 0 = .ok (.aload_n 0, 1) := dk_42 (dk_at dksX1_bent_0 0 rfl rfl)
theorem dX1_bent_1 : decode cX1_bent 1 = .ok (.iconst 0, 1) := dk_3 (dk_at dksX1_bent_0 1 rfl rfl)
theorem dX1_bent_2 : decode cX1_bent 2 = .ok (.iconst 0, 1) := dk_3 (dk_at dksX1_bent_0 2 rfl rfl)
theorem dX1_bent_3 : decode cX1_bent 3 = .ok (.invokevirtual 229, 3) := dk_182 0 229 (dk_at dksX1_bent_0 3 rfl rfl)
theorem dX1_bent_6 : decode cX1_bent 6 = .ok (.istore_n 1, 1) := dk_60 (dk_at dksX1_bent_0 6 rfl rfl)
theorem dX1_bent_7 : decode cX1_bent 7 = .ok (.aload_n 0, 1) := dk_42 (dk_at dksX1_bent_0 7 rfl rfl)
theorem dX1_bent_8 : decode cX1_bent 8 = .ok (.ldc 233, 2) := dk_18 233 (dk_at dksX1_bent_0 8 rfl rfl)
theorem dX1_bent_10 : decode cX1_bent 10 = .ok (.invokevirtual 220, 3) := dk_182 0 220 (dk_at dksX1_bent_0 10 rfl rfl)
theorem dX1_bent_13 : decode cX1_bent 13 = .ok (.aload_n 0, 1) := dk_42 (dk_at dksX1_bent_0 13 rfl rfl)
theorem dX1_bent_14 : decode cX1_bent 14 = .ok (.iload_n 1, 1) := dk_27 (dk_at dksX1_bent_0 14 rfl rfl)
theorem dX1_bent_15 : decode cX1_bent 15 = .ok (.iconst 1, 1) := dk_4 (dk_at dksX1_bent_0 15 rfl rfl)
theorem dX1_bent_16 : decode cX1_bent 16 = .ok (.invokevirtual 229, 3) := dk_182 0 229 (dk_at dksX1_bent_0 16 rfl rfl)
theorem dX1_bent_19 : decode cX1_bent 19 = .ok (.istore_n 2, 1) := dk_61 (dk_at dksX1_bent_0 19 rfl rfl)
theorem dX1_bent_20 : decode cX1_bent 20 = .ok (.aload_n 0, 1) := dk_42 (dk_at dksX1_bent_0 20 rfl rfl)
theorem dX1_bent_21 : decode cX1_bent 21 = .ok (.ldc 235, 2) := dk_18 235 (dk_at dksX1_bent_0 21 rfl rfl)
theorem dX1_bent_23 : decode cX1_bent 23 = .ok (.invokevirtual 220, 3) := dk_182 0 220 (dk_at dksX1_bent_1 0 rfl rfl)
theorem dX1_bent_26 : decode cX1_bent 26 = .ok (.new 61, 3) := dk_187 0 61 (dk_at dksX1_bent_1 3 rfl rfl)
theorem dX1_bent_29 : decode cX1_bent 29 = .ok (.dup, 1) := dk_89 (dk_at dksX1_bent_1 6 rfl rfl)
theorem dX1_bent_30 : decode cX1_bent 30 = .ok (.iload_n 1, 1) := dk_27 (dk_at dksX1_bent_1 7 rfl rfl)
theorem dX1_bent_31 : decode cX1_bent 31 = .ok (.iload_n 2, 1) := dk_28 (dk_at dksX1_bent_1 8 rfl rfl)
theorem dX1_bent_32 : decode cX1_bent 32 = .ok (.invokespecial 63, 3) := dk_183 0 63 (dk_at dksX1_bent_1 9 rfl rfl)
theorem dX1_bent_35 : decode cX1_bent 35 = .ok (.areturn, 1) := dk_176 (dk_at dksX1_bent_1 12 rfl rfl)
abbrev cX1_row : ByteArray := prog_1_method_30_code
def yX1_row : MethodName := ⟨RX1, "row", "(IZ)I"⟩
def dkwX1_row_4 : List UInt8 := [167, 0, 4, 3, 96, 181, 0, 188, 167, 255, 195, 42, 18, 227, 182, 0, 220, 29, 172]
abbrev dktX1_row_4 : List UInt8 := dkwX1_row_4 ++ []
def dkwX1_row_3 : List UInt8 := [16, 6, 162, 0, 7, 4, 167, 0, 4, 3, 54, 4, 42, 89, 180, 0, 188, 21, 4, 153, 0, 7, 4]
abbrev dktX1_row_3 : List UInt8 := dkwX1_row_3 ++ dktX1_row_4
def dkwX1_row_2 : List UInt8 := [180, 0, 39, 27, 29, 96, 42, 182, 0, 224, 80, 132, 3, 1, 42, 182, 0, 196, 16, 47, 160, 0, 13, 29]
abbrev dktX1_row_2 : List UInt8 := dkwX1_row_2 ++ dktX1_row_3
def dkwX1_row_1 : List UInt8 := [153, 0, 15, 42, 89, 180, 0, 188, 4, 96, 181, 0, 188, 3, 172, 4, 54, 4, 21, 4, 153, 0, 62, 42]
abbrev dktX1_row_1 : List UInt8 := dkwX1_row_1 ++ dktX1_row_2
def dkwX1_row_0 : List UInt8 := [42, 18, 218, 182, 0, 220, 3, 62, 42, 182, 0, 196, 16, 93, 160, 0, 23, 28, 153, 0, 7, 27]
abbrev dktX1_row_0 : List UInt8 := dkwX1_row_0 ++ dktX1_row_1
theorem dksX1_row_0 : cX1_row.data.toList.drop 0 = dktX1_row_0 := by decide +kernel
theorem dksX1_row_1 : cX1_row.data.toList.drop 22 = dktX1_row_1 := dk_seg dksX1_row_0 22 rfl rfl
theorem dksX1_row_2 : cX1_row.data.toList.drop 46 = dktX1_row_2 := dk_seg dksX1_row_1 24 rfl rfl
theorem dksX1_row_3 : cX1_row.data.toList.drop 70 = dktX1_row_3 := dk_seg dksX1_row_2 24 rfl rfl
theorem dksX1_row_4 : cX1_row.data.toList.drop 93 = dktX1_row_4 := dk_seg dksX1_row_3 23 rfl rfl
theorem dX1_row_0 : decode cX1_row 0 = .ok (.aload_n 0, 1) := dk_42 (dk_at dksX1_row_0 0 rfl rfl)
theorem dX1_row_1 : decode cX1_row 1 = .ok (.ldc 218, 2) := dk_18 218 (dk_at dksX1_row_0 1 rfl rfl)
theorem dX1_row_3 : decode cX1_row 3 = .ok (.invokevirtual 220, 3) := dk_182 0 220 (dk_at dksX1_row_0 3 rfl rfl)
theorem dX1_row_6 : decode cX1_row 6 = .ok (.iconst 0, 1) := dk_3 (dk_at dksX1_row_0 6 rfl rfl)
theorem dX1_row_7 : decode cX1_row 7 = .ok (.istore_n 3, 1) := dk_62 (dk_at dksX1_row_0 7 rfl rfl)
theorem dX1_row_8 : decode cX1_row 8 = .ok (.aload_n 0, 1) := dk_42 (dk_at dksX1_row_0 8 rfl rfl)
theorem dX1_row_9 : decode cX1_row 9 = .ok (.invokevirtual 196, 3) := dk_182 0 196 (dk_at dksX1_row_0 9 rfl rfl)
theorem dX1_row_12 : decode cX1_row 12 = .ok (.bipush 93, 2) := dk_16 93 (dk_at dksX1_row_0 12 rfl rfl)
theorem dX1_row_14 : decode cX1_row 14 = .ok (.if_icmp .ne 23, 3) := dk_160 0 23 (dk_at dksX1_row_0 14 rfl rfl)
theorem dX1_row_17 : decode cX1_row 17 = .ok (.iload_n 2, 1) := dk_28 (dk_at dksX1_row_0 17 rfl rfl)
theorem dX1_row_18 : decode cX1_row 18 = .ok (.ifCond .eq 7, 3) := dk_153 0 7 (dk_at dksX1_row_0 18 rfl rfl)
theorem dX1_row_21 : decode cX1_row 21 = .ok (.iload_n 1, 1) := dk_27 (dk_at dksX1_row_0 21 rfl rfl)
theorem dX1_row_22 : decode cX1_row 22 = .ok (.ifCond .eq 15, 3) := dk_153 0 15 (dk_at dksX1_row_1 0 rfl rfl)
theorem dX1_row_25 : decode cX1_row 25 = .ok (.aload_n 0, 1) := dk_42 (dk_at dksX1_row_1 3 rfl rfl)
theorem dX1_row_26 : decode cX1_row 26 = .ok (.dup, 1) := dk_89 (dk_at dksX1_row_1 4 rfl rfl)
theorem dX1_row_27 : decode cX1_row 27 = .ok (.getfield 188, 3) := dk_180 0 188 (dk_at dksX1_row_1 5 rfl rfl)
theorem dX1_row_30 : decode cX1_row 30 = .ok (.iconst 1, 1) := dk_4 (dk_at dksX1_row_1 8 rfl rfl)
theorem dX1_row_31 : decode cX1_row 31 = .ok (.iadd, 1) := dk_96 (dk_at dksX1_row_1 9 rfl rfl)
theorem dX1_row_32 : decode cX1_row 32 = .ok (.putfield 188, 3) := dk_181 0 188 (dk_at dksX1_row_1 10 rfl rfl)
theorem dX1_row_35 : decode cX1_row 35 = .ok (.iconst 0, 1) := dk_3 (dk_at dksX1_row_1 13 rfl rfl)
theorem dX1_row_36 : decode cX1_row 36 = .ok (.ireturn, 1) := dk_172 (dk_at dksX1_row_1 14 rfl rfl)
theorem dX1_row_37 : decode cX1_row 37 = .ok (.iconst 1, 1) := dk_4 (dk_at dksX1_row_1 15 rfl rfl)
theorem dX1_row_38 : decode cX1_row 38 = .ok (.istore 4, 2) := dk_54 4 (dk_at dksX1_row_1 16 rfl rfl)
theorem dX1_row_40 : decode cX1_row 40 = .ok (.iload 4, 2) := dk_21 4 (dk_at dksX1_row_1 18 rfl rfl)
theorem dX1_row_42 : decode cX1_row 42 = .ok (.ifCond .eq 62, 3) := dk_153 0 62 (dk_at dksX1_row_1 20 rfl rfl)
theorem dX1_row_45 : decode cX1_row 45 = .ok (.aload_n 0, 1) := dk_42 (dk_at dksX1_row_1 23 rfl rfl)
theorem dX1_row_46 : decode cX1_row 46 = .ok (.getfield 39, 3) := dk_180 0 39 (dk_at dksX1_row_2 0 rfl rfl)
theorem dX1_row_49 : decode cX1_row 49 = .ok (.iload_n 1, 1) := dk_27 (dk_at dksX1_row_2 3 rfl rfl)
theorem dX1_row_50 : decode cX1_row 50 = .ok (.iload_n 3, 1) := dk_29 (dk_at dksX1_row_2 4 rfl rfl)
theorem dX1_row_51 : decode cX1_row 51 = .ok (.iadd, 1) := dk_96 (dk_at dksX1_row_2 5 rfl rfl)
theorem dX1_row_52 : decode cX1_row 52 = .ok (.aload_n 0, 1) := dk_42 (dk_at dksX1_row_2 6 rfl rfl)
theorem dX1_row_53 : decode cX1_row 53 = .ok (.invokevirtual 224, 3) := dk_182 0 224 (dk_at dksX1_row_2 7 rfl rfl)
theorem dX1_row_56 : decode cX1_row 56 = .ok (.lastore, 1) := dk_80 (dk_at dksX1_row_2 10 rfl rfl)
theorem dX1_row_57 : decode cX1_row 57 = .ok (.iinc 3 1, 3) := dk_132 3 1 (dk_at dksX1_row_2 11 rfl rfl)
theorem dX1_row_60 : decode cX1_row 60 = .ok (.aload_n 0, 1) := dk_42 (dk_at dksX1_row_2 14 rfl rfl)
theorem dX1_row_61 : decode cX1_row 61 = .ok (.invokevirtual 196, 3) := dk_182 0 196 (dk_at dksX1_row_2 15 rfl rfl)
theorem dX1_row_64 : decode cX1_row 64 = .ok (.bipush 47, 2) := dk_16 47 (dk_at dksX1_row_2 18 rfl rfl)
theorem dX1_row_66 : decode cX1_row 66 = .ok (.if_icmp .ne 13, 3) := dk_160 0 13 (dk_at dksX1_row_2 20 rfl rfl)
theorem dX1_row_69 : decode cX1_row 69 = .ok (.iload_n 3, 1) := dk_29 (dk_at dksX1_row_2 23 rfl rfl)
theorem dX1_row_70 : decode cX1_row 70 = .ok (.bipush 6, 2) := dk_16 6 (dk_at dksX1_row_3 0 rfl rfl)
theorem dX1_row_72 : decode cX1_row 72 = .ok (.if_icmp .ge 7, 3) := dk_162 0 7 (dk_at dksX1_row_3 2 rfl rfl)
theorem dX1_row_75 : decode cX1_row 75 = .ok (.iconst 1, 1) := dk_4 (dk_at dksX1_row_3 5 rfl rfl)
theorem dX1_row_76 : decode cX1_row 76 = .ok (.goto 4, 3) := dk_167 0 4 (dk_at dksX1_row_3 6 rfl rfl)
theorem dX1_row_79 : decode cX1_row 79 = .ok (.iconst 0, 1) := dk_3 (dk_at dksX1_row_3 9 rfl rfl)
theorem dX1_row_80 : decode cX1_row 80 = .ok (.istore 4, 2) := dk_54 4 (dk_at dksX1_row_3 10 rfl rfl)
theorem dX1_row_82 : decode cX1_row 82 = .ok (.aload_n 0, 1) := dk_42 (dk_at dksX1_row_3 12 rfl rfl)
theorem dX1_row_83 : decode cX1_row 83 = .ok (.dup, 1) := dk_89 (dk_at dksX1_row_3 13 rfl rfl)
theorem dX1_row_84 : decode cX1_row 84 = .ok (.getfield 188, 3) := dk_180 0 188 (dk_at dksX1_row_3 14 rfl rfl)
theorem dX1_row_87 : decode cX1_row 87 = .ok (.iload 4, 2) := dk_21 4 (dk_at dksX1_row_3 17 rfl rfl)
theorem dX1_row_89 : decode cX1_row 89 = .ok (.ifCond .eq 7, 3) := dk_153 0 7 (dk_at dksX1_row_3 19 rfl rfl)
theorem dX1_row_92 : decode cX1_row 92 = .ok (.iconst 1, 1) := dk_4 (dk_at dksX1_row_3 22 rfl rfl)
theorem dX1_row_93 : decode cX1_row 93 = .ok (.goto 4, 3) := dk_167 0 4 (dk_at dksX1_row_4 0 rfl rfl)
theorem dX1_row_96 : decode cX1_row 96 = .ok (.iconst 0, 1) := dk_3 (dk_at dksX1_row_4 3 rfl rfl)
theorem dX1_row_97 : decode cX1_row 97 = .ok (.iadd, 1) := dk_96 (dk_at dksX1_row_4 4 rfl rfl)
theorem dX1_row_98 : decode cX1_row 98 = .ok (.putfield 188, 3) := dk_181 0 188 (dk_at dksX1_row_4 5 rfl rfl)
theorem dX1_row_101 : decode cX1_row 101 = .ok (.goto (-61), 3) := dk_167 255 195 (dk_at dksX1_row_4 8 rfl rfl)
theorem dX1_row_104 : decode cX1_row 104 = .ok (.aload_n 0, 1) := dk_42 (dk_at dksX1_row_4 11 rfl rfl)
theorem dX1_row_105 : decode cX1_row 105 = .ok (.ldc 227, 2) := dk_18 227 (dk_at dksX1_row_4 12 rfl rfl)
theorem dX1_row_107 : decode cX1_row 107 = .ok (.invokevirtual 220, 3) := dk_182 0 220 (dk_at dksX1_row_4 14 rfl rfl)
theorem dX1_row_110 : decode cX1_row 110 = .ok (.iload_n 3, 1) := dk_29 (dk_at dksX1_row_4 17 rfl rfl)
theorem dX1_row_111 : decode cX1_row 111 = .ok (.ireturn, 1) := dk_172 (dk_at dksX1_row_4 18 rfl rfl)
abbrev cX1_want : ByteArray := prog_1_method_27_code
def yX1_want : MethodName := ⟨RX1, "want", "(Ljava/lang/String;)V"⟩
def dkwX1_want_1 : List UInt8 := [182, 0, 203, 42, 89, 180, 0, 188, 4, 96, 181, 0, 188, 132, 2, 1, 167, 255, 219, 177]
abbrev dktX1_want_1 : List UInt8 := dkwX1_want_1 ++ []
def dkwX1_want_0 : List UInt8 := [3, 61, 28, 43, 182, 0, 191, 162, 0, 35, 42, 182, 0, 196, 43, 28, 182, 0, 199, 159, 0, 7, 42]
abbrev dktX1_want_0 : List UInt8 := dkwX1_want_0 ++ dktX1_want_1
theorem dksX1_want_0 : cX1_want.data.toList.drop 0 = dktX1_want_0 := by decide +kernel
theorem dksX1_want_1 : cX1_want.data.toList.drop 23 = dktX1_want_1 := dk_seg dksX1_want_0 23 rfl rfl
theorem dX1_want_0 : decode cX1_want 0 = .ok (.iconst 0, 1) := dk_3 (dk_at dksX1_want_0 0 rfl rfl)
theorem dX1_want_1 : decode cX1_want 1 = .ok (.istore_n 2, 1) := dk_61 (dk_at dksX1_want_0 1 rfl rfl)
theorem dX1_want_2 : decode cX1_want 2 = .ok (.iload_n 2, 1) := dk_28 (dk_at dksX1_want_0 2 rfl rfl)
theorem dX1_want_3 : decode cX1_want 3 = .ok (.aload_n 1, 1) := dk_43 (dk_at dksX1_want_0 3 rfl rfl)
theorem dX1_want_4 : decode cX1_want 4 = .ok (.invokevirtual 191, 3) := dk_182 0 191 (dk_at dksX1_want_0 4 rfl rfl)
theorem dX1_want_7 : decode cX1_want 7 = .ok (.if_icmp .ge 35, 3) := dk_162 0 35 (dk_at dksX1_want_0 7 rfl rfl)
theorem dX1_want_10 : decode cX1_want 10 = .ok (.aload_n 0, 1) := dk_42 (dk_at dksX1_want_0 10 rfl rfl)
theorem dX1_want_11 : decode cX1_want 11 = .ok (.invokevirtual 196, 3) := dk_182 0 196 (dk_at dksX1_want_0 11 rfl rfl)
theorem dX1_want_14 : decode cX1_want 14 = .ok (.aload_n 1, 1) := dk_43 (dk_at dksX1_want_0 14 rfl rfl)
theorem dX1_want_15 : decode cX1_want 15 = .ok (.iload_n 2, 1) := dk_28 (dk_at dksX1_want_0 15 rfl rfl)
theorem dX1_want_16 : decode cX1_want 16 = .ok (.invokevirtual 199, 3) := dk_182 0 199 (dk_at dksX1_want_0 16 rfl rfl)
theorem dX1_want_19 : decode cX1_want 19 = .ok (.if_icmp .eq 7, 3) := dk_159 0 7 (dk_at dksX1_want_0 19 rfl rfl)
theorem dX1_want_22 : decode cX1_want 22 = .ok (.aload_n 0, 1) := dk_42 (dk_at dksX1_want_0 22 rfl rfl)
theorem dX1_want_23 : decode cX1_want 23 = .ok (.invokevirtual 203, 3) := dk_182 0 203 (dk_at dksX1_want_1 0 rfl rfl)
theorem dX1_want_26 : decode cX1_want 26 = .ok (.aload_n 0, 1) := dk_42 (dk_at dksX1_want_1 3 rfl rfl)
theorem dX1_want_27 : decode cX1_want 27 = .ok (.dup, 1) := dk_89 (dk_at dksX1_want_1 4 rfl rfl)
theorem dX1_want_28 : decode cX1_want 28 = .ok (.getfield 188, 3) := dk_180 0 188 (dk_at dksX1_want_1 5 rfl rfl)
theorem dX1_want_31 : decode cX1_want 31 = .ok (.iconst 1, 1) := dk_4 (dk_at dksX1_want_1 8 rfl rfl)
theorem dX1_want_32 : decode cX1_want 32 = .ok (.iadd, 1) := dk_96 (dk_at dksX1_want_1 9 rfl rfl)
theorem dX1_want_33 : decode cX1_want 33 = .ok (.putfield 188, 3) := dk_181 0 188 (dk_at dksX1_want_1 10 rfl rfl)
theorem dX1_want_36 : decode cX1_want 36 = .ok (.iinc 2 1, 3) := dk_132 2 1 (dk_at dksX1_want_1 13 rfl rfl)
theorem dX1_want_39 : decode cX1_want 39 = .ok (.goto (-37), 3) := dk_167 255 219 (dk_at dksX1_want_1 16 rfl rfl)
theorem dX1_want_42 : decode cX1_want 42 = .ok (.return_, 1) := dk_177 (dk_at dksX1_want_1 19 rfl rfl)
abbrev cX1_none : ByteArray := prog_1_method_26_code
def yX1_none : MethodName := ⟨RX1, "none", "()V"⟩
def dkwX1_none_0 : List UInt8 := [187, 0, 121, 89, 183, 0, 123, 191]
abbrev dktX1_none_0 : List UInt8 := dkwX1_none_0 ++ []
theorem dksX1_none_0 : cX1_none.data.toList.drop 0 = dktX1_none_0 := by decide +kernel
theorem dX1_none_0 : decode cX1_none 0 = .ok (.new 121, 3) := dk_187 0 121 (dk_at dksX1_none_0 0 rfl rfl)
theorem dX1_none_3 : decode cX1_none 3 = .ok (.dup, 1) := dk_89 (dk_at dksX1_none_0 3 rfl rfl)
theorem dX1_none_4 : decode cX1_none 4 = .ok (.invokespecial 123, 3) := dk_183 0 123 (dk_at dksX1_none_0 4 rfl rfl)
theorem dX1_none_7 : decode cX1_none 7 = .ok (.athrow, 1) := dk_191 (dk_at dksX1_none_0 7 rfl rfl)
abbrev cX1_number : ByteArray := prog_1_method_29_code
def yX1_number : MethodName := ⟨RX1, "number", "()J"⟩
def dkwX1_number_6 : List UInt8 := [180, 0, 188, 4, 96, 181, 0, 188, 167, 255, 186, 27, 153, 0, 7, 32, 167, 0, 5, 32, 117, 173]
abbrev dktX1_number_6 : List UInt8 := dkwX1_number_6 ++ []
def dkwX1_number_5 : List UInt8 := [20, 0, 216, 109, 148, 156, 0, 7, 42, 182, 0, 203, 20, 0, 216, 32, 105, 21, 4, 133, 101, 65, 42, 89]
abbrev dktX1_number_5 : List UInt8 := dkwX1_number_5 ++ dktX1_number_6
def dkwX1_number_4 : List UInt8 := [27, 153, 0, 9, 20, 0, 212, 167, 0, 6, 20, 0, 214, 55, 5, 32, 22, 5, 21, 4, 133, 97]
abbrev dktX1_number_4 : List UInt8 := dkwX1_number_4 ++ dktX1_number_5
def dkwX1_number_3 : List UInt8 := [96, 181, 0, 188, 9, 173, 9, 65, 42, 182, 0, 206, 153, 0, 69, 42, 182, 0, 196, 16, 48, 100, 54, 4]
abbrev dktX1_number_3 : List UInt8 := dkwX1_number_3 ++ dktX1_number_4
def dkwX1_number_2 : List UInt8 := [16, 48, 160, 0, 7, 42, 182, 0, 203, 42, 182, 0, 196, 16, 48, 160, 0, 15, 42, 89, 180, 0, 188, 4]
abbrev dktX1_number_2 : List UInt8 := dkwX1_number_2 ++ dktX1_number_3
def dkwX1_number_1 : List UInt8 := [4, 167, 0, 4, 3, 96, 181, 0, 188, 42, 182, 0, 206, 153, 0, 16, 27, 153, 0, 16, 42, 182, 0, 196]
abbrev dktX1_number_1 : List UInt8 := dkwX1_number_1 ++ dktX1_number_2
def dkwX1_number_0 : List UInt8 := [42, 182, 0, 196, 16, 45, 160, 0, 7, 4, 167, 0, 4, 3, 60, 42, 89, 180, 0, 188, 27, 153, 0, 7]
abbrev dktX1_number_0 : List UInt8 := dkwX1_number_0 ++ dktX1_number_1
theorem dksX1_number_0 : cX1_number.data.toList.drop 0 = dktX1_number_0 := by decide +kernel
theorem dksX1_number_1 : cX1_number.data.toList.drop 24 = dktX1_number_1 := dk_seg dksX1_number_0 24 rfl rfl
theorem dksX1_number_2 : cX1_number.data.toList.drop 48 = dktX1_number_2 := dk_seg dksX1_number_1 24 rfl rfl
theorem dksX1_number_3 : cX1_number.data.toList.drop 72 = dktX1_number_3 := dk_seg dksX1_number_2 24 rfl rfl
theorem dksX1_number_4 : cX1_number.data.toList.drop 96 = dktX1_number_4 := dk_seg dksX1_number_3 24 rfl rfl
theorem dksX1_number_5 : cX1_number.data.toList.drop 118 = dktX1_number_5 := dk_seg dksX1_number_4 22 rfl rfl
theorem dksX1_number_6 : cX1_number.data.toList.drop 142 = dktX1_number_6 := dk_seg dksX1_number_5 24 rfl rfl
theorem dX1_number_0 : decode cX1_number 0 = .ok (.aload_n 0, 1) := dk_42 (dk_at dksX1_number_0 0 rfl rfl)
theorem dX1_number_1 : decode cX1_number 1 = .ok (.invokevirtual 196, 3) := dk_182 0 196 (dk_at dksX1_number_0 1 rfl rfl)
theorem dX1_number_4 : decode cX1_number 4 = .ok (.bipush 45, 2) := dk_16 45 (dk_at dksX1_number_0 4 rfl rfl)
theorem dX1_number_6 : decode cX1_number 6 = .ok (.if_icmp .ne 7, 3) := dk_160 0 7 (dk_at dksX1_number_0 6 rfl rfl)
theorem dX1_number_9 : decode cX1_number 9 = .ok (.iconst 1, 1) := dk_4 (dk_at dksX1_number_0 9 rfl rfl)
theorem dX1_number_10 : decode cX1_number 10 = .ok (.goto 4, 3) := dk_167 0 4 (dk_at dksX1_number_0 10 rfl rfl)
theorem dX1_number_13 : decode cX1_number 13 = .ok (.iconst 0, 1) := dk_3 (dk_at dksX1_number_0 13 rfl rfl)
theorem dX1_number_14 : decode cX1_number 14 = .ok (.istore_n 1, 1) := dk_60 (dk_at dksX1_number_0 14 rfl rfl)
theorem dX1_number_15 : decode cX1_number 15 = .ok (.aload_n 0, 1) := dk_42 (dk_at dksX1_number_0 15 rfl rfl)
theorem dX1_number_16 : decode cX1_number 16 = .ok (.dup, 1) := dk_89 (dk_at dksX1_number_0 16 rfl rfl)
theorem dX1_number_17 : decode cX1_number 17 = .ok (.getfield 188, 3) := dk_180 0 188 (dk_at dksX1_number_0 17 rfl rfl)
theorem dX1_number_20 : decode cX1_number 20 = .ok (.iload_n 1, 1) := dk_27 (dk_at dksX1_number_0 20 rfl rfl)
theorem dX1_number_21 : decode cX1_number 21 = .ok (.ifCond .eq 7, 3) := dk_153 0 7 (dk_at dksX1_number_0 21 rfl rfl)
theorem dX1_number_24 : decode cX1_number 24 = .ok (.iconst 1, 1) := dk_4 (dk_at dksX1_number_1 0 rfl rfl)
theorem dX1_number_25 : decode cX1_number 25 = .ok (.goto 4, 3) := dk_167 0 4 (dk_at dksX1_number_1 1 rfl rfl)
theorem dX1_number_28 : decode cX1_number 28 = .ok (.iconst 0, 1) := dk_3 (dk_at dksX1_number_1 4 rfl rfl)
theorem dX1_number_29 : decode cX1_number 29 = .ok (.iadd, 1) := dk_96 (dk_at dksX1_number_1 5 rfl rfl)
theorem dX1_number_30 : decode cX1_number 30 = .ok (.putfield 188, 3) := dk_181 0 188 (dk_at dksX1_number_1 6 rfl rfl)
theorem dX1_number_33 : decode cX1_number 33 = .ok (.aload_n 0, 1) := dk_42 (dk_at dksX1_number_1 9 rfl rfl)
theorem dX1_number_34 : decode cX1_number 34 = .ok (.invokevirtual 206, 3) := dk_182 0 206 (dk_at dksX1_number_1 10 rfl rfl)
theorem dX1_number_37 : decode cX1_number 37 = .ok (.ifCond .eq 16, 3) := dk_153 0 16 (dk_at dksX1_number_1 13 rfl rfl)
theorem dX1_number_40 : decode cX1_number 40 = .ok (.iload_n 1, 1) := dk_27 (dk_at dksX1_number_1 16 rfl rfl)
theorem dX1_number_41 : decode cX1_number 41 = .ok (.ifCond .eq 16, 3) := dk_153 0 16 (dk_at dksX1_number_1 17 rfl rfl)
theorem dX1_number_44 : decode cX1_number 44 = .ok (.aload_n 0, 1) := dk_42 (dk_at dksX1_number_1 20 rfl rfl)
theorem dX1_number_45 : decode cX1_number 45 = .ok (.invokevirtual 196, 3) := dk_182 0 196 (dk_at dksX1_number_1 21 rfl rfl)
theorem dX1_number_48 : decode cX1_number 48 = .ok (.bipush 48, 2) := dk_16 48 (dk_at dksX1_number_2 0 rfl rfl)
theorem dX1_number_50 : decode cX1_number 50 = .ok (.if_icmp .ne 7, 3) := dk_160 0 7 (dk_at dksX1_number_2 2 rfl rfl)
theorem dX1_number_53 : decode cX1_number 53 = .ok (.aload_n 0, 1) := dk_42 (dk_at dksX1_number_2 5 rfl rfl)
theorem dX1_number_54 : decode cX1_number 54 = .ok (.invokevirtual 203, 3) := dk_182 0 203 (dk_at dksX1_number_2 6 rfl rfl)
theorem dX1_number_57 : decode cX1_number 57 = .ok (.aload_n 0, 1) := dk_42 (dk_at dksX1_number_2 9 rfl rfl)
theorem dX1_number_58 : decode cX1_number 58 = .ok (.invokevirtual 196, 3) := dk_182 0 196 (dk_at dksX1_number_2 10 rfl rfl)
theorem dX1_number_61 : decode cX1_number 61 = .ok (.bipush 48, 2) := dk_16 48 (dk_at dksX1_number_2 13 rfl rfl)
theorem dX1_number_63 : decode cX1_number 63 = .ok (.if_icmp .ne 15, 3) := dk_160 0 15 (dk_at dksX1_number_2 15 rfl rfl)
theorem dX1_number_66 : decode cX1_number 66 = .ok (.aload_n 0, 1) := dk_42 (dk_at dksX1_number_2 18 rfl rfl)
theorem dX1_number_67 : decode cX1_number 67 = .ok (.dup, 1) := dk_89 (dk_at dksX1_number_2 19 rfl rfl)
theorem dX1_number_68 : decode cX1_number 68 = .ok (.getfield 188, 3) := dk_180 0 188 (dk_at dksX1_number_2 20 rfl rfl)
theorem dX1_number_71 : decode cX1_number 71 = .ok (.iconst 1, 1) := dk_4 (dk_at dksX1_number_2 23 rfl rfl)
theorem dX1_number_72 : decode cX1_number 72 = .ok (.iadd, 1) := dk_96 (dk_at dksX1_number_3 0 rfl rfl)
theorem dX1_number_73 : decode cX1_number 73 = .ok (.putfield 188, 3) := dk_181 0 188 (dk_at dksX1_number_3 1 rfl rfl)
theorem dX1_number_76 : decode cX1_number 76 = .ok (.lconst 0, 1) := dk_9 (dk_at dksX1_number_3 4 rfl rfl)
theorem dX1_number_77 : decode cX1_number 77 = .ok (.lreturn, 1) := dk_173 (dk_at dksX1_number_3 5 rfl rfl)
theorem dX1_number_78 : decode cX1_number 78 = .ok (.lconst 0, 1) := dk_9 (dk_at dksX1_number_3 6 rfl rfl)
theorem dX1_number_79 : decode cX1_number 79 = .ok (.lstore_n 2, 1) := dk_65 (dk_at dksX1_number_3 7 rfl rfl)
theorem dX1_number_80 : decode cX1_number 80 = .ok (.aload_n 0, 1) := dk_42 (dk_at dksX1_number_3 8 rfl rfl)
theorem dX1_number_81 : decode cX1_number 81 = .ok (.invokevirtual 206, 3) := dk_182 0 206 (dk_at dksX1_number_3 9 rfl rfl)
theorem dX1_number_84 : decode cX1_number 84 = .ok (.ifCond .eq 69, 3) := dk_153 0 69 (dk_at dksX1_number_3 12 rfl rfl)
theorem dX1_number_87 : decode cX1_number 87 = .ok (.aload_n 0, 1) := dk_42 (dk_at dksX1_number_3 15 rfl rfl)
theorem dX1_number_88 : decode cX1_number 88 = .ok (.invokevirtual 196, 3) := dk_182 0 196 (dk_at dksX1_number_3 16 rfl rfl)
theorem dX1_number_91 : decode cX1_number 91 = .ok (.bipush 48, 2) := dk_16 48 (dk_at dksX1_number_3 19 rfl rfl)
theorem dX1_number_93 : decode cX1_number 93 = .ok (.isub, 1) := dk_100 (dk_at dksX1_number_3 21 rfl rfl)
theorem dX1_number_94 : decode cX1_number 94 = .ok (.istore 4, 2) := dk_54 4 (dk_at dksX1_number_3 22 rfl rfl)
theorem dX1_number_96 : decode cX1_number 96 = .ok (.iload_n 1, 1) := dk_27 (dk_at dksX1_number_4 0 rfl rfl)
theorem dX1_number_97 : decode cX1_number 97 = .ok (.ifCond .eq 9, 3) := dk_153 0 9 (dk_at dksX1_number_4 1 rfl rfl)
theorem dX1_number_100 : decode cX1_number 100 = .ok (.ldc2_w 212, 3) := dk_20 0 212 (dk_at dksX1_number_4 4 rfl rfl)
theorem dX1_number_103 : decode cX1_number 103 = .ok (.goto 6, 3) := dk_167 0 6 (dk_at dksX1_number_4 7 rfl rfl)
theorem dX1_number_106 : decode cX1_number 106 = .ok (.ldc2_w 214, 3) := dk_20 0 214 (dk_at dksX1_number_4 10 rfl rfl)
theorem dX1_number_109 : decode cX1_number 109 = .ok (.lstore 5, 2) := dk_55 5 (dk_at dksX1_number_4 13 rfl rfl)
theorem dX1_number_111 : decode cX1_number 111 = .ok (.lload_n 2, 1) := dk_32 (dk_at dksX1_number_4 15 rfl rfl)
theorem dX1_number_112 : decode cX1_number 112 = .ok (.lload 5, 2) := dk_22 5 (dk_at dksX1_number_4 16 rfl rfl)
theorem dX1_number_114 : decode cX1_number 114 = .ok (.iload 4, 2) := dk_21 4 (dk_at dksX1_number_4 18 rfl rfl)
theorem dX1_number_116 : decode cX1_number 116 = .ok (.i2l, 1) := dk_133 (dk_at dksX1_number_4 20 rfl rfl)
theorem dX1_number_117 : decode cX1_number 117 = .ok (.ladd, 1) := dk_97 (dk_at dksX1_number_4 21 rfl rfl)
theorem dX1_number_118 : decode cX1_number 118 = .ok (.ldc2_w 216, 3) := dk_20 0 216 (dk_at dksX1_number_5 0 rfl rfl)
theorem dX1_number_121 : decode cX1_number 121 = .ok (.ldiv, 1) := dk_109 (dk_at dksX1_number_5 3 rfl rfl)
theorem dX1_number_122 : decode cX1_number 122 = .ok (.lcmp, 1) := dk_148 (dk_at dksX1_number_5 4 rfl rfl)
theorem dX1_number_123 : decode cX1_number 123 = .ok (.ifCond .ge 7, 3) := dk_156 0 7 (dk_at dksX1_number_5 5 rfl rfl)
theorem dX1_number_126 : decode cX1_number 126 = .ok (.aload_n 0, 1) := dk_42 (dk_at dksX1_number_5 8 rfl rfl)
theorem dX1_number_127 : decode cX1_number 127 = .ok (.invokevirtual 203, 3) := dk_182 0 203 (dk_at dksX1_number_5 9 rfl rfl)
theorem dX1_number_130 : decode cX1_number 130 = .ok (.ldc2_w 216, 3) := dk_20 0 216 (dk_at dksX1_number_5 12 rfl rfl)
theorem dX1_number_133 : decode cX1_number 133 = .ok (.lload_n 2, 1) := dk_32 (dk_at dksX1_number_5 15 rfl rfl)
theorem dX1_number_134 : decode cX1_number 134 = .ok (.lmul, 1) := dk_105 (dk_at dksX1_number_5 16 rfl rfl)
theorem dX1_number_135 : decode cX1_number 135 = .ok (.iload 4, 2) := dk_21 4 (dk_at dksX1_number_5 17 rfl rfl)
theorem dX1_number_137 : decode cX1_number 137 = .ok (.i2l, 1) := dk_133 (dk_at dksX1_number_5 19 rfl rfl)
theorem dX1_number_138 : decode cX1_number 138 = .ok (.lsub, 1) := dk_101 (dk_at dksX1_number_5 20 rfl rfl)
theorem dX1_number_139 : decode cX1_number 139 = .ok (.lstore_n 2, 1) := dk_65 (dk_at dksX1_number_5 21 rfl rfl)
theorem dX1_number_140 : decode cX1_number 140 = .ok (.aload_n 0, 1) := dk_42 (dk_at dksX1_number_5 22 rfl rfl)
theorem dX1_number_141 : decode cX1_number 141 = .ok (.dup, 1) := dk_89 (dk_at dksX1_number_5 23 rfl rfl)
theorem dX1_number_142 : decode cX1_number 142 = .ok (.getfield 188, 3) := dk_180 0 188 (dk_at dksX1_number_6 0 rfl rfl)
theorem dX1_number_145 : decode cX1_number 145 = .ok (.iconst 1, 1) := dk_4 (dk_at dksX1_number_6 3 rfl rfl)
theorem dX1_number_146 : decode cX1_number 146 = .ok (.iadd, 1) := dk_96 (dk_at dksX1_number_6 4 rfl rfl)
theorem dX1_number_147 : decode cX1_number 147 = .ok (.putfield 188, 3) := dk_181 0 188 (dk_at dksX1_number_6 5 rfl rfl)
theorem dX1_number_150 : decode cX1_number 150 = .ok (.goto (-70), 3) := dk_167 255 186 (dk_at dksX1_number_6 8 rfl rfl)
theorem dX1_number_153 : decode cX1_number 153 = .ok (.iload_n 1, 1) := dk_27 (dk_at dksX1_number_6 11 rfl rfl)
theorem dX1_number_154 : decode cX1_number 154 = .ok (.ifCond .eq 7, 3) := dk_153 0 7 (dk_at dksX1_number_6 12 rfl rfl)
theorem dX1_number_157 : decode cX1_number 157 = .ok (.lload_n 2, 1) := dk_32 (dk_at dksX1_number_6 15 rfl rfl)
theorem dX1_number_158 : decode cX1_number 158 = .ok (.goto 5, 3) := dk_167 0 5 (dk_at dksX1_number_6 16 rfl rfl)
theorem dX1_number_161 : decode cX1_number 161 = .ok (.lload_n 2, 1) := dk_32 (dk_at dksX1_number_6 19 rfl rfl)
theorem dX1_number_162 : decode cX1_number 162 = .ok (.lneg, 1) := dk_117 (dk_at dksX1_number_6 20 rfl rfl)
theorem dX1_number_163 : decode cX1_number 163 = .ok (.lreturn, 1) := dk_173 (dk_at dksX1_number_6 21 rfl rfl)
abbrev cX1_isFigure : ByteArray := prog_1_method_28_code
def yX1_isFigure : MethodName := ⟨RX1, "isFigure", "()Z"⟩
def dkwX1_isFigure_0 : List UInt8 := [42, 182, 0, 196, 16, 48, 16, 57, 184, 0, 51, 172]
abbrev dktX1_isFigure_0 : List UInt8 := dkwX1_isFigure_0 ++ []
theorem dksX1_isFigure_0 : cX1_isFigure.data.toList.drop 0 = dktX1_isFigure_0 := by decide +kernel
theorem dX1_isFigure_0 : decode cX1_isFigure 0 = .ok (.aload_n 0, 1) := dk_42 (dk_at dksX1_isFigure_0 0 rfl rfl)
theorem dX1_isFigure_1 : decode cX1_isFigure 1 = .ok (.invokevirtual 196, 3) := dk_182 0 196 (dk_at dksX1_isFigure_0 1 rfl rfl)
theorem dX1_isFigure_4 : decode cX1_isFigure 4 = .ok (.bipush 48, 2) := dk_16 48 (dk_at dksX1_isFigure_0 4 rfl rfl)
theorem dX1_isFigure_6 : decode cX1_isFigure 6 = .ok (.bipush 57, 2) := dk_16 57 (dk_at dksX1_isFigure_0 6 rfl rfl)
theorem dX1_isFigure_8 : decode cX1_isFigure 8 = .ok (.invokestatic 51, 3) := dk_184 0 51 (dk_at dksX1_isFigure_0 8 rfl rfl)
theorem dX1_isFigure_11 : decode cX1_isFigure 11 = .ok (.ireturn, 1) := dk_172 (dk_at dksX1_isFigure_0 11 rfl rfl)
abbrev cX1_print : ByteArray := prog_1_method_39_code
def yX1_print : MethodName := ⟨RX1, "print", "(I)I"⟩
def dkwX1_print_2 : List UInt8 := [172]
abbrev dktX1_print_2 : List UInt8 := dkwX1_print_2 ++ []
def dkwX1_print_1 : List UInt8 := [180, 0, 11, 27, 50, 182, 1, 18, 167, 0, 12, 78, 42, 28, 181, 0, 251, 16, 245, 172, 42, 180, 0, 251]
abbrev dktX1_print_1 : List UInt8 := dkwX1_print_1 ++ dktX1_print_2
def dkwX1_print_0 : List UInt8 := [42, 27, 182, 0, 76, 154, 0, 6, 16, 254, 172, 42, 180, 0, 251, 61, 42, 3, 181, 0, 251, 42, 42]
abbrev dktX1_print_0 : List UInt8 := dkwX1_print_0 ++ dktX1_print_1
theorem dksX1_print_0 : cX1_print.data.toList.drop 0 = dktX1_print_0 := by decide +kernel
theorem dksX1_print_1 : cX1_print.data.toList.drop 23 = dktX1_print_1 := dk_seg dksX1_print_0 23 rfl rfl
theorem dksX1_print_2 : cX1_print.data.toList.drop 47 = dktX1_print_2 := dk_seg dksX1_print_1 24 rfl rfl
theorem dX1_print_0 : decode cX1_print 0 = .ok (.aload_n 0, 1) := dk_42 (dk_at dksX1_print_0 0 rfl rfl)
theorem dX1_print_1 : decode cX1_print 1 = .ok (.iload_n 1, 1) := dk_27 (dk_at dksX1_print_0 1 rfl rfl)
theorem dX1_print_2 : decode cX1_print 2 = .ok (.invokevirtual 76, 3) := dk_182 0 76 (dk_at dksX1_print_0 2 rfl rfl)
theorem dX1_print_5 : decode cX1_print 5 = .ok (.ifCond .ne 6, 3) := dk_154 0 6 (dk_at dksX1_print_0 5 rfl rfl)
theorem dX1_print_8 : decode cX1_print 8 = .ok (.bipush (-2), 2) := dk_16 254 (dk_at dksX1_print_0 8 rfl rfl)
theorem dX1_print_10 : decode cX1_print 10 = .ok (.ireturn, 1) := dk_172 (dk_at dksX1_print_0 10 rfl rfl)
theorem dX1_print_11 : decode cX1_print 11 = .ok (.aload_n 0, 1) := dk_42 (dk_at dksX1_print_0 11 rfl rfl)
theorem dX1_print_12 : decode cX1_print 12 = .ok (.getfield 251, 3) := dk_180 0 251 (dk_at dksX1_print_0 12 rfl rfl)
theorem dX1_print_15 : decode cX1_print 15 = .ok (.istore_n 2, 1) := dk_61 (dk_at dksX1_print_0 15 rfl rfl)
theorem dX1_print_16 : decode cX1_print 16 = .ok (.aload_n 0, 1) := dk_42 (dk_at dksX1_print_0 16 rfl rfl)
theorem dX1_print_17 : decode cX1_print 17 = .ok (.iconst 0, 1) := dk_3 (dk_at dksX1_print_0 17 rfl rfl)
theorem dX1_print_18 : decode cX1_print 18 = .ok (.putfield 251, 3) := dk_181 0 251 (dk_at dksX1_print_0 18 rfl rfl)
theorem dX1_print_21 : decode cX1_print 21 = .ok (.aload_n 0, 1) := dk_42 (dk_at dksX1_print_0 21 rfl rfl)
theorem dX1_print_22 : decode cX1_print 22 = .ok (.aload_n 0, 1) := dk_42 (dk_at dksX1_print_0 22 rfl rfl)
theorem dX1_print_23 : decode cX1_print 23 = .ok (.getfield 11, 3) := dk_180 0 11 (dk_at dksX1_print_1 0 rfl rfl)
theorem dX1_print_26 : decode cX1_print 26 = .ok (.iload_n 1, 1) := dk_27 (dk_at dksX1_print_1 3 rfl rfl)
theorem dX1_print_27 : decode cX1_print 27 = .ok (.aaload, 1) := dk_50 (dk_at dksX1_print_1 4 rfl rfl)
theorem dX1_print_28 : decode cX1_print 28 = .ok (.invokevirtual 274, 3) := dk_182 1 18 (dk_at dksX1_print_1 5 rfl rfl)
theorem dX1_print_31 : decode cX1_print 31 = .ok (.goto 12, 3) := dk_167 0 12 (dk_at dksX1_print_1 8 rfl rfl)
theorem dX1_print_34 : decode cX1_print 34 = .ok (.astore_n 3, 1) := dk_78 (dk_at dksX1_print_1 11 rfl rfl)
theorem dX1_print_35 : decode cX1_print 35 = .ok (.aload_n 0, 1) := dk_42 (dk_at dksX1_print_1 12 rfl rfl)
theorem dX1_print_36 : decode cX1_print 36 = .ok (.iload_n 2, 1) := dk_28 (dk_at dksX1_print_1 13 rfl rfl)
theorem dX1_print_37 : decode cX1_print 37 = .ok (.putfield 251, 3) := dk_181 0 251 (dk_at dksX1_print_1 14 rfl rfl)
theorem dX1_print_40 : decode cX1_print 40 = .ok (.bipush (-11), 2) := dk_16 245 (dk_at dksX1_print_1 17 rfl rfl)
theorem dX1_print_42 : decode cX1_print 42 = .ok (.ireturn, 1) := dk_172 (dk_at dksX1_print_1 19 rfl rfl)
theorem dX1_print_43 : decode cX1_print 43 = .ok (.aload_n 0, 1) := dk_42 (dk_at dksX1_print_1 20 rfl rfl)
theorem dX1_print_44 : decode cX1_print 44 = .ok (.getfield 251, 3) := dk_180 0 251 (dk_at dksX1_print_1 21 rfl rfl)
theorem dX1_print_47 : decode cX1_print 47 = .ok (.ireturn, 1) := dk_172 (dk_at dksX1_print_2 0 rfl rfl)
abbrev cX1_writeScore : ByteArray := prog_1_method_38_code
def yX1_writeScore : MethodName := ⟨RX1, "writeScore", "(LLevelScores$Score;)V"⟩
def dkwX1_writeScore_4 : List UInt8 := [5, 47, 182, 1, 10, 42, 18, 235, 182, 1, 6, 177]
abbrev dktX1_writeScore_4 : List UInt8 := dkwX1_writeScore_4 ++ []
def dkwX1_writeScore_3 : List UInt8 := [180, 0, 80, 4, 47, 182, 1, 10, 28, 5, 160, 0, 19, 42, 18, 240, 182, 1, 6, 42, 43, 180, 0, 80]
abbrev dktX1_writeScore_3 : List UInt8 := dkwX1_writeScore_3 ++ dktX1_writeScore_4
def dkwX1_writeScore_2 : List UInt8 := [42, 43, 180, 0, 80, 3, 47, 182, 1, 10, 28, 158, 0, 46, 42, 18, 233, 182, 1, 6, 42, 43]
abbrev dktX1_writeScore_2 : List UInt8 := dkwX1_writeScore_2 ++ dktX1_writeScore_3
def dkwX1_writeScore_1 : List UInt8 := [182, 1, 6, 42, 43, 43, 182, 1, 13, 43, 180, 0, 80, 190, 182, 1, 14, 42, 18, 235, 182, 1, 6, 177]
abbrev dktX1_writeScore_1 : List UInt8 := dkwX1_writeScore_1 ++ dktX1_writeScore_2
def dkwX1_writeScore_0 : List UInt8 := [43, 182, 0, 102, 61, 28, 6, 160, 0, 40, 42, 43, 3, 43, 182, 1, 13, 182, 1, 14, 42, 18, 233]
abbrev dktX1_writeScore_0 : List UInt8 := dkwX1_writeScore_0 ++ dktX1_writeScore_1
theorem dksX1_writeScore_0 : cX1_writeScore.data.toList.drop 0 = dktX1_writeScore_0 := by decide +kernel
theorem dksX1_writeScore_1 : cX1_writeScore.data.toList.drop 23 = dktX1_writeScore_1 := dk_seg dksX1_writeScore_0 23 rfl rfl
theorem dksX1_writeScore_2 : cX1_writeScore.data.toList.drop 47 = dktX1_writeScore_2 := dk_seg dksX1_writeScore_1 24 rfl rfl
theorem dksX1_writeScore_3 : cX1_writeScore.data.toList.drop 69 = dktX1_writeScore_3 := dk_seg dksX1_writeScore_2 22 rfl rfl
theorem dksX1_writeScore_4 : cX1_writeScore.data.toList.drop 93 = dktX1_writeScore_4 := dk_seg dksX1_writeScore_3 24 rfl rfl
theorem dX1_writeScore_0 : decode cX1_writeScore 0 = .ok (.aload_n 1, 1) := dk_43 (dk_at dksX1_writeScore_0 0 rfl rfl)
theorem dX1_writeScore_1 : decode cX1_writeScore 1 = .ok (.invokevirtual 102, 3) := dk_182 0 102 (dk_at dksX1_writeScore_0 1 rfl rfl)
theorem dX1_writeScore_4 : decode cX1_writeScore 4 = .ok (.istore_n 2, 1) := dk_61 (dk_at dksX1_writeScore_0 4 rfl rfl)
theorem dX1_writeScore_5 : decode cX1_writeScore 5 = .ok (.iload_n 2, 1) := dk_28 (dk_at dksX1_writeScore_0 5 rfl rfl)
theorem dX1_writeScore_6 : decode cX1_writeScore 6 = .ok (.iconst 3, 1) := dk_6 (dk_at dksX1_writeScore_0 6 rfl rfl)
theorem dX1_writeScore_7 : decode cX1_writeScore 7 = .ok (.if_icmp .ne 40, 3) := dk_160 0 40 (dk_at dksX1_writeScore_0 7 rfl rfl)
theorem dX1_writeScore_10 : decode cX1_writeScore 10 = .ok (.aload_n 0, 1) := dk_42 (dk_at dksX1_writeScore_0 10 rfl rfl)
theorem dX1_writeScore_11 : decode cX1_writeScore 11 = .ok (.aload_n 1, 1) := dk_43 (dk_at dksX1_writeScore_0 11 rfl rfl)
theorem dX1_writeScore_12 : decode cX1_writeScore 12 = .ok (.iconst 0, 1) := dk_3 (dk_at dksX1_writeScore_0 12 rfl rfl)
theorem dX1_writeScore_13 : decode cX1_writeScore 13 = .ok (.aload_n 1, 1) := dk_43 (dk_at dksX1_writeScore_0 13 rfl rfl)
theorem dX1_writeScore_14 : decode cX1_writeScore 14 = .ok (.invokevirtual 269, 3) := dk_182 1 13 (dk_at dksX1_writeScore_0 14 rfl rfl)
theorem dX1_writeScore_17 : decode cX1_writeScore 17 = .ok (.invokevirtual 270, 3) := dk_182 1 14 (dk_at dksX1_writeScore_0 17 rfl rfl)
theorem dX1_writeScore_20 : decode cX1_writeScore 20 = .ok (.aload_n 0, 1) := dk_42 (dk_at dksX1_writeScore_0 20 rfl rfl)
theorem dX1_writeScore_21 : decode cX1_writeScore 21 = .ok (.ldc 233, 2) := dk_18 233 (dk_at dksX1_writeScore_0 21 rfl rfl)
theorem dX1_writeScore_23 : decode cX1_writeScore 23 = .ok (.invokevirtual 262, 3) := dk_182 1 6 (dk_at dksX1_writeScore_1 0 rfl rfl)
theorem dX1_writeScore_26 : decode cX1_writeScore 26 = .ok (.aload_n 0, 1) := dk_42 (dk_at dksX1_writeScore_1 3 rfl rfl)
theorem dX1_writeScore_27 : decode cX1_writeScore 27 = .ok (.aload_n 1, 1) := dk_43 (dk_at dksX1_writeScore_1 4 rfl rfl)
theorem dX1_writeScore_28 : decode cX1_writeScore 28 = .ok (.aload_n 1, 1) := dk_43 (dk_at dksX1_writeScore_1 5 rfl rfl)
theorem dX1_writeScore_29 : decode cX1_writeScore 29 = .ok (.invokevirtual 269, 3) := dk_182 1 13 (dk_at dksX1_writeScore_1 6 rfl rfl)
theorem dX1_writeScore_32 : decode cX1_writeScore 32 = .ok (.aload_n 1, 1) := dk_43 (dk_at dksX1_writeScore_1 9 rfl rfl)
theorem dX1_writeScore_33 : decode cX1_writeScore 33 = .ok (.getfield 80, 3) := dk_180 0 80 (dk_at dksX1_writeScore_1 10 rfl rfl)
theorem dX1_writeScore_36 : decode cX1_writeScore 36 = .ok (.arraylength, 1) := dk_190 (dk_at dksX1_writeScore_1 13 rfl rfl)
theorem dX1_writeScore_37 : decode cX1_writeScore 37 = .ok (.invokevirtual 270, 3) := dk_182 1 14 (dk_at dksX1_writeScore_1 14 rfl rfl)
theorem dX1_writeScore_40 : decode cX1_writeScore 40 = .ok (.aload_n 0, 1) := dk_42 (dk_at dksX1_writeScore_1 17 rfl rfl)
theorem dX1_writeScore_41 : decode cX1_writeScore 41 = .ok (.ldc 235, 2) := dk_18 235 (dk_at dksX1_writeScore_1 18 rfl rfl)
theorem dX1_writeScore_43 : decode cX1_writeScore 43 = .ok (.invokevirtual 262, 3) := dk_182 1 6 (dk_at dksX1_writeScore_1 20 rfl rfl)
theorem dX1_writeScore_46 : decode cX1_writeScore 46 = .ok (.return_, 1) := dk_177 (dk_at dksX1_writeScore_1 23 rfl rfl)
theorem dX1_writeScore_47 : decode cX1_writeScore 47 = .ok (.aload_n 0, 1) := dk_42 (dk_at dksX1_writeScore_2 0 rfl rfl)
theorem dX1_writeScore_48 : decode cX1_writeScore 48 = .ok (.aload_n 1, 1) := dk_43 (dk_at dksX1_writeScore_2 1 rfl rfl)
theorem dX1_writeScore_49 : decode cX1_writeScore 49 = .ok (.getfield 80, 3) := dk_180 0 80 (dk_at dksX1_writeScore_2 2 rfl rfl)
theorem dX1_writeScore_52 : decode cX1_writeScore 52 = .ok (.iconst 0, 1) := dk_3 (dk_at dksX1_writeScore_2 5 rfl rfl)
theorem dX1_writeScore_53 : decode cX1_writeScore 53 = .ok (.laload, 1) := dk_47 (dk_at dksX1_writeScore_2 6 rfl rfl)
theorem dX1_writeScore_54 : decode cX1_writeScore 54 = .ok (.invokevirtual 266, 3) := dk_182 1 10 (dk_at dksX1_writeScore_2 7 rfl rfl)
theorem dX1_writeScore_57 : decode cX1_writeScore 57 = .ok (.iload_n 2, 1) := dk_28 (dk_at dksX1_writeScore_2 10 rfl rfl)
theorem dX1_writeScore_58 : decode cX1_writeScore 58 = .ok (.ifCond .le 46, 3) := dk_158 0 46 (dk_at dksX1_writeScore_2 11 rfl rfl)
theorem dX1_writeScore_61 : decode cX1_writeScore 61 = .ok (.aload_n 0, 1) := dk_42 (dk_at dksX1_writeScore_2 14 rfl rfl)
theorem dX1_writeScore_62 : decode cX1_writeScore 62 = .ok (.ldc 233, 2) := dk_18 233 (dk_at dksX1_writeScore_2 15 rfl rfl)
theorem dX1_writeScore_64 : decode cX1_writeScore 64 = .ok (.invokevirtual 262, 3) := dk_182 1 6 (dk_at dksX1_writeScore_2 17 rfl rfl)
theorem dX1_writeScore_67 : decode cX1_writeScore 67 = .ok (.aload_n 0, 1) := dk_42 (dk_at dksX1_writeScore_2 20 rfl rfl)
theorem dX1_writeScore_68 : decode cX1_writeScore 68 = .ok (.aload_n 1, 1) := dk_43 (dk_at dksX1_writeScore_2 21 rfl rfl)
theorem dX1_writeScore_69 : decode cX1_writeScore 69 = .ok (.getfield 80, 3) := dk_180 0 80 (dk_at dksX1_writeScore_3 0 rfl rfl)
theorem dX1_writeScore_72 : decode cX1_writeScore 72 = .ok (.iconst 1, 1) := dk_4 (dk_at dksX1_writeScore_3 3 rfl rfl)
theorem dX1_writeScore_73 : decode cX1_writeScore 73 = .ok (.laload, 1) := dk_47 (dk_at dksX1_writeScore_3 4 rfl rfl)
theorem dX1_writeScore_74 : decode cX1_writeScore 74 = .ok (.invokevirtual 266, 3) := dk_182 1 10 (dk_at dksX1_writeScore_3 5 rfl rfl)
theorem dX1_writeScore_77 : decode cX1_writeScore 77 = .ok (.iload_n 2, 1) := dk_28 (dk_at dksX1_writeScore_3 8 rfl rfl)
theorem dX1_writeScore_78 : decode cX1_writeScore 78 = .ok (.iconst 2, 1) := dk_5 (dk_at dksX1_writeScore_3 9 rfl rfl)
theorem dX1_writeScore_79 : decode cX1_writeScore 79 = .ok (.if_icmp .ne 19, 3) := dk_160 0 19 (dk_at dksX1_writeScore_3 10 rfl rfl)
theorem dX1_writeScore_82 : decode cX1_writeScore 82 = .ok (.aload_n 0, 1) := dk_42 (dk_at dksX1_writeScore_3 13 rfl rfl)
theorem dX1_writeScore_83 : decode cX1_writeScore 83 = .ok (.ldc 240, 2) := dk_18 240 (dk_at dksX1_writeScore_3 14 rfl rfl)
theorem dX1_writeScore_85 : decode cX1_writeScore 85 = .ok (.invokevirtual 262, 3) := dk_182 1 6 (dk_at dksX1_writeScore_3 16 rfl rfl)
theorem dX1_writeScore_88 : decode cX1_writeScore 88 = .ok (.aload_n 0, 1) := dk_42 (dk_at dksX1_writeScore_3 19 rfl rfl)
theorem dX1_writeScore_89 : decode cX1_writeScore 89 = .ok (.aload_n 1, 1) := dk_43 (dk_at dksX1_writeScore_3 20 rfl rfl)
theorem dX1_writeScore_90 : decode cX1_writeScore 90 = .ok (.getfield 80, 3) := dk_180 0 80 (dk_at dksX1_writeScore_3 21 rfl rfl)
theorem dX1_writeScore_93 : decode cX1_writeScore 93 = .ok (.iconst 2, 1) := dk_5 (dk_at dksX1_writeScore_4 0 rfl rfl)
theorem dX1_writeScore_94 : decode cX1_writeScore 94 = .ok (.laload, 1) := dk_47 (dk_at dksX1_writeScore_4 1 rfl rfl)
theorem dX1_writeScore_95 : decode cX1_writeScore 95 = .ok (.invokevirtual 266, 3) := dk_182 1 10 (dk_at dksX1_writeScore_4 2 rfl rfl)
theorem dX1_writeScore_98 : decode cX1_writeScore 98 = .ok (.aload_n 0, 1) := dk_42 (dk_at dksX1_writeScore_4 5 rfl rfl)
theorem dX1_writeScore_99 : decode cX1_writeScore 99 = .ok (.ldc 235, 2) := dk_18 235 (dk_at dksX1_writeScore_4 6 rfl rfl)
theorem dX1_writeScore_101 : decode cX1_writeScore 101 = .ok (.invokevirtual 262, 3) := dk_182 1 6 (dk_at dksX1_writeScore_4 8 rfl rfl)
theorem dX1_writeScore_104 : decode cX1_writeScore 104 = .ok (.return_, 1) := dk_177 (dk_at dksX1_writeScore_4 11 rfl rfl)
abbrev cX1_writeRow : ByteArray := prog_1_method_37_code
def yX1_writeRow : MethodName := ⟨RX1, "writeRow", "(LLevelScores$Score;II)V"⟩
def dkwX1_writeRow_2 : List UInt8 := [18, 227, 182, 1, 6, 177]
abbrev dktX1_writeRow_2 : List UInt8 := dkwX1_writeRow_2 ++ []
def dkwX1_writeRow_1 : List UInt8 := [19, 1, 8, 182, 1, 6, 42, 43, 180, 0, 80, 21, 4, 47, 182, 1, 10, 132, 4, 1, 167, 255, 223, 42]
abbrev dktX1_writeRow_1 : List UInt8 := dkwX1_writeRow_1 ++ dktX1_writeRow_2
def dkwX1_writeRow_0 : List UInt8 := [42, 18, 218, 182, 1, 6, 28, 54, 4, 21, 4, 29, 162, 0, 33, 21, 4, 28, 164, 0, 10, 42]
abbrev dktX1_writeRow_0 : List UInt8 := dkwX1_writeRow_0 ++ dktX1_writeRow_1
theorem dksX1_writeRow_0 : cX1_writeRow.data.toList.drop 0 = dktX1_writeRow_0 := by decide +kernel
theorem dksX1_writeRow_1 : cX1_writeRow.data.toList.drop 22 = dktX1_writeRow_1 := dk_seg dksX1_writeRow_0 22 rfl rfl
theorem dksX1_writeRow_2 : cX1_writeRow.data.toList.drop 46 = dktX1_writeRow_2 := dk_seg dksX1_writeRow_1 24 rfl rfl
theorem dX1_writeRow_0 : decode cX1_writeRow 0 = .ok (.aload_n 0, 1) := dk_42 (dk_at dksX1_writeRow_0 0 rfl rfl)
theorem dX1_writeRow_1 : decode cX1_writeRow 1 = .ok (.ldc 218, 2) := dk_18 218 (dk_at dksX1_writeRow_0 1 rfl rfl)
theorem dX1_writeRow_3 : decode cX1_writeRow 3 = .ok (.invokevirtual 262, 3) := dk_182 1 6 (dk_at dksX1_writeRow_0 3 rfl rfl)
theorem dX1_writeRow_6 : decode cX1_writeRow 6 = .ok (.iload_n 2, 1) := dk_28 (dk_at dksX1_writeRow_0 6 rfl rfl)
theorem dX1_writeRow_7 : decode cX1_writeRow 7 = .ok (.istore 4, 2) := dk_54 4 (dk_at dksX1_writeRow_0 7 rfl rfl)
theorem dX1_writeRow_9 : decode cX1_writeRow 9 = .ok (.iload 4, 2) := dk_21 4 (dk_at dksX1_writeRow_0 9 rfl rfl)
theorem dX1_writeRow_11 : decode cX1_writeRow 11 = .ok (.iload_n 3, 1) := dk_29 (dk_at dksX1_writeRow_0 11 rfl rfl)
theorem dX1_writeRow_12 : decode cX1_writeRow 12 = .ok (.if_icmp .ge 33, 3) := dk_162 0 33 (dk_at dksX1_writeRow_0 12 rfl rfl)
theorem dX1_writeRow_15 : decode cX1_writeRow 15 = .ok (.iload 4, 2) := dk_21 4 (dk_at dksX1_writeRow_0 15 rfl rfl)
theorem dX1_writeRow_17 : decode cX1_writeRow 17 = .ok (.iload_n 2, 1) := dk_28 (dk_at dksX1_writeRow_0 17 rfl rfl)
theorem dX1_writeRow_18 : decode cX1_writeRow 18 = .ok (.if_icmp .le 10, 3) := dk_164 0 10 (dk_at dksX1_writeRow_0 18 rfl rfl)
theorem dX1_writeRow_21 : decode cX1_writeRow 21 = .ok (.aload_n 0, 1) := dk_42 (dk_at dksX1_writeRow_0 21 rfl rfl)
theorem dX1_writeRow_22 : decode cX1_writeRow 22 = .ok (.ldc_w 264, 3) := dk_19 1 8 (dk_at dksX1_writeRow_1 0 rfl rfl)
theorem dX1_writeRow_25 : decode cX1_writeRow 25 = .ok (.invokevirtual 262, 3) := dk_182 1 6 (dk_at dksX1_writeRow_1 3 rfl rfl)
theorem dX1_writeRow_28 : decode cX1_writeRow 28 = .ok (.aload_n 0, 1) := dk_42 (dk_at dksX1_writeRow_1 6 rfl rfl)
theorem dX1_writeRow_29 : decode cX1_writeRow 29 = .ok (.aload_n 1, 1) := dk_43 (dk_at dksX1_writeRow_1 7 rfl rfl)
theorem dX1_writeRow_30 : decode cX1_writeRow 30 = .ok (.getfield 80, 3) := dk_180 0 80 (dk_at dksX1_writeRow_1 8 rfl rfl)
theorem dX1_writeRow_33 : decode cX1_writeRow 33 = .ok (.iload 4, 2) := dk_21 4 (dk_at dksX1_writeRow_1 11 rfl rfl)
theorem dX1_writeRow_35 : decode cX1_writeRow 35 = .ok (.laload, 1) := dk_47 (dk_at dksX1_writeRow_1 13 rfl rfl)
theorem dX1_writeRow_36 : decode cX1_writeRow 36 = .ok (.invokevirtual 266, 3) := dk_182 1 10 (dk_at dksX1_writeRow_1 14 rfl rfl)
theorem dX1_writeRow_39 : decode cX1_writeRow 39 = .ok (.iinc 4 1, 3) := dk_132 4 1 (dk_at dksX1_writeRow_1 17 rfl rfl)
theorem dX1_writeRow_42 : decode cX1_writeRow 42 = .ok (.goto (-33), 3) := dk_167 255 223 (dk_at dksX1_writeRow_1 20 rfl rfl)
theorem dX1_writeRow_45 : decode cX1_writeRow 45 = .ok (.aload_n 0, 1) := dk_42 (dk_at dksX1_writeRow_1 23 rfl rfl)
theorem dX1_writeRow_46 : decode cX1_writeRow 46 = .ok (.ldc 227, 2) := dk_18 227 (dk_at dksX1_writeRow_2 0 rfl rfl)
theorem dX1_writeRow_48 : decode cX1_writeRow 48 = .ok (.invokevirtual 262, 3) := dk_182 1 6 (dk_at dksX1_writeRow_2 2 rfl rfl)
theorem dX1_writeRow_51 : decode cX1_writeRow 51 = .ok (.return_, 1) := dk_177 (dk_at dksX1_writeRow_2 5 rfl rfl)
abbrev cX1_write : ByteArray := prog_1_method_35_code
def yX1_write : MethodName := ⟨RX1, "write", "(Ljava/lang/String;)V"⟩
def dkwX1_write_1 : List UInt8 := [167, 255, 236, 177]
abbrev dktX1_write_1 : List UInt8 := dkwX1_write_1 ++ []
def dkwX1_write_0 : List UInt8 := [3, 61, 28, 43, 182, 0, 191, 162, 0, 18, 42, 43, 28, 182, 0, 199, 182, 0, 254, 132, 2, 1]
abbrev dktX1_write_0 : List UInt8 := dkwX1_write_0 ++ dktX1_write_1
theorem dksX1_write_0 : cX1_write.data.toList.drop 0 = dktX1_write_0 := by decide +kernel
theorem dksX1_write_1 : cX1_write.data.toList.drop 22 = dktX1_write_1 := dk_seg dksX1_write_0 22 rfl rfl
theorem dX1_write_0 : decode cX1_write 0 = .ok (.iconst 0, 1) := dk_3 (dk_at dksX1_write_0 0 rfl rfl)
theorem dX1_write_1 : decode cX1_write 1 = .ok (.istore_n 2, 1) := dk_61 (dk_at dksX1_write_0 1 rfl rfl)
theorem dX1_write_2 : decode cX1_write 2 = .ok (.iload_n 2, 1) := dk_28 (dk_at dksX1_write_0 2 rfl rfl)
theorem dX1_write_3 : decode cX1_write 3 = .ok (.aload_n 1, 1) := dk_43 (dk_at dksX1_write_0 3 rfl rfl)
theorem dX1_write_4 : decode cX1_write 4 = .ok (.invokevirtual 191, 3) := dk_182 0 191 (dk_at dksX1_write_0 4 rfl rfl)
theorem dX1_write_7 : decode cX1_write 7 = .ok (.if_icmp .ge 18, 3) := dk_162 0 18 (dk_at dksX1_write_0 7 rfl rfl)
theorem dX1_write_10 : decode cX1_write 10 = .ok (.aload_n 0, 1) := dk_42 (dk_at dksX1_write_0 10 rfl rfl)
theorem dX1_write_11 : decode cX1_write 11 = .ok (.aload_n 1, 1) := dk_43 (dk_at dksX1_write_0 11 rfl rfl)
theorem dX1_write_12 : decode cX1_write 12 = .ok (.iload_n 2, 1) := dk_28 (dk_at dksX1_write_0 12 rfl rfl)
theorem dX1_write_13 : decode cX1_write 13 = .ok (.invokevirtual 199, 3) := dk_182 0 199 (dk_at dksX1_write_0 13 rfl rfl)
theorem dX1_write_16 : decode cX1_write 16 = .ok (.invokevirtual 254, 3) := dk_182 0 254 (dk_at dksX1_write_0 16 rfl rfl)
theorem dX1_write_19 : decode cX1_write 19 = .ok (.iinc 2 1, 3) := dk_132 2 1 (dk_at dksX1_write_0 19 rfl rfl)
theorem dX1_write_22 : decode cX1_write 22 = .ok (.goto (-20), 3) := dk_167 255 236 (dk_at dksX1_write_1 0 rfl rfl)
theorem dX1_write_25 : decode cX1_write 25 = .ok (.return_, 1) := dk_177 (dk_at dksX1_write_1 3 rfl rfl)
abbrev cX1_write_2 : ByteArray := prog_1_method_34_code
def yX1_write_2 : MethodName := ⟨RX1, "write", "(I)V"⟩
def dkwX1_write_2_0 : List UInt8 := [42, 180, 0, 19, 42, 180, 0, 251, 27, 145, 84, 42, 89, 180, 0, 251, 4, 96, 181, 0, 251, 177]
abbrev dktX1_write_2_0 : List UInt8 := dkwX1_write_2_0 ++ []
theorem dksX1_write_2_0 : cX1_write_2.data.toList.drop 0 = dktX1_write_2_0 := by decide +kernel
theorem dX1_write_2_0 : decode cX1_write_2 0 = .ok (.aload_n 0, 1) := dk_42 (dk_at dksX1_write_2_0 0 rfl rfl)
theorem dX1_write_2_1 : decode cX1_write_2 1 = .ok (.getfield 19, 3) := dk_180 0 19 (dk_at dksX1_write_2_0 1 rfl rfl)
theorem dX1_write_2_4 : decode cX1_write_2 4 = .ok (.aload_n 0, 1) := dk_42 (dk_at dksX1_write_2_0 4 rfl rfl)
theorem dX1_write_2_5 : decode cX1_write_2 5 = .ok (.getfield 251, 3) := dk_180 0 251 (dk_at dksX1_write_2_0 5 rfl rfl)
theorem dX1_write_2_8 : decode cX1_write_2 8 = .ok (.iload_n 1, 1) := dk_27 (dk_at dksX1_write_2_0 8 rfl rfl)
theorem dX1_write_2_9 : decode cX1_write_2 9 = .ok (.i2b, 1) := dk_145 (dk_at dksX1_write_2_0 9 rfl rfl)
theorem dX1_write_2_10 : decode cX1_write_2 10 = .ok (.bastore, 1) := dk_84 (dk_at dksX1_write_2_0 10 rfl rfl)
theorem dX1_write_2_11 : decode cX1_write_2 11 = .ok (.aload_n 0, 1) := dk_42 (dk_at dksX1_write_2_0 11 rfl rfl)
theorem dX1_write_2_12 : decode cX1_write_2 12 = .ok (.dup, 1) := dk_89 (dk_at dksX1_write_2_0 12 rfl rfl)
theorem dX1_write_2_13 : decode cX1_write_2 13 = .ok (.getfield 251, 3) := dk_180 0 251 (dk_at dksX1_write_2_0 13 rfl rfl)
theorem dX1_write_2_16 : decode cX1_write_2 16 = .ok (.iconst 1, 1) := dk_4 (dk_at dksX1_write_2_0 16 rfl rfl)
theorem dX1_write_2_17 : decode cX1_write_2 17 = .ok (.iadd, 1) := dk_96 (dk_at dksX1_write_2_0 17 rfl rfl)
theorem dX1_write_2_18 : decode cX1_write_2 18 = .ok (.putfield 251, 3) := dk_181 0 251 (dk_at dksX1_write_2_0 18 rfl rfl)
theorem dX1_write_2_21 : decode cX1_write_2 21 = .ok (.return_, 1) := dk_177 (dk_at dksX1_write_2_0 21 rfl rfl)
abbrev cX1_write_3 : ByteArray := prog_1_method_36_code
def yX1_write_3 : MethodName := ⟨RX1, "write", "(J)V"⟩
def dkwX1_write_3_3 : List UInt8 := [182, 0, 254, 22, 5, 20, 0, 216, 109, 55, 5, 167, 255, 224, 177]
abbrev dktX1_write_3_3 : List UInt8 := dkwX1_write_3_3 ++ []
def dkwX1_write_3_2 : List UInt8 := [167, 255, 237, 22, 5, 9, 148, 158, 0, 31, 42, 20, 1, 4, 33, 22, 5, 109, 20, 0, 216, 113, 101, 136]
abbrev dktX1_write_3_2 : List UInt8 := dkwX1_write_3_2 ++ dktX1_write_3_3
def dkwX1_write_3_1 : List UInt8 := [66, 10, 55, 5, 33, 22, 5, 109, 20, 1, 2, 148, 157, 0, 14, 22, 5, 20, 0, 216, 105, 55, 5]
abbrev dktX1_write_3_1 : List UInt8 := dkwX1_write_3_1 ++ dktX1_write_3_2
def dkwX1_write_3_0 : List UInt8 := [31, 9, 148, 156, 0, 9, 42, 16, 45, 182, 0, 254, 31, 9, 148, 156, 0, 7, 31, 167, 0, 5, 31, 117]
abbrev dktX1_write_3_0 : List UInt8 := dkwX1_write_3_0 ++ dktX1_write_3_1
theorem dksX1_write_3_0 : cX1_write_3.data.toList.drop 0 = dktX1_write_3_0 := by decide +kernel
theorem dksX1_write_3_1 : cX1_write_3.data.toList.drop 24 = dktX1_write_3_1 := dk_seg dksX1_write_3_0 24 rfl rfl
theorem dksX1_write_3_2 : cX1_write_3.data.toList.drop 47 = dktX1_write_3_2 := dk_seg dksX1_write_3_1 23 rfl rfl
theorem dksX1_write_3_3 : cX1_write_3.data.toList.drop 71 = dktX1_write_3_3 := dk_seg dksX1_write_3_2 24 rfl rfl
theorem dX1_write_3_0 : decode cX1_write_3 0 = .ok (.lload_n 1, 1) := dk_31 (dk_at dksX1_write_3_0 0 rfl rfl)
theorem dX1_write_3_1 : decode cX1_write_3 1 = .ok (.lconst 0, 1) := dk_9 (dk_at dksX1_write_3_0 1 rfl rfl)
theorem dX1_write_3_2 : decode cX1_write_3 2 = .ok (.lcmp, 1) := dk_148 (dk_at dksX1_write_3_0 2 rfl rfl)
theorem dX1_write_3_3 : decode cX1_write_3 3 = .ok (.ifCond .ge 9, 3) := dk_156 0 9 (dk_at dksX1_write_3_0 3 rfl rfl)
theorem dX1_write_3_6 : decode cX1_write_3 6 = .ok (.aload_n 0, 1) := dk_42 (dk_at dksX1_write_3_0 6 rfl rfl)
theorem dX1_write_3_7 : decode cX1_write_3 7 = .ok (.bipush 45, 2) := dk_16 45 (dk_at dksX1_write_3_0 7 rfl rfl)
theorem dX1_write_3_9 : decode cX1_write_3 9 = .ok (.invokevirtual 254, 3) := dk_182 0 254 (dk_at dksX1_write_3_0 9 rfl rfl)
theorem dX1_write_3_12 : decode cX1_write_3 12 = .ok (.lload_n 1, 1) := dk_31 (dk_at dksX1_write_3_0 12 rfl rfl)
theorem dX1_write_3_13 : decode cX1_write_3 13 = .ok (.lconst 0, 1) := dk_9 (dk_at dksX1_write_3_0 13 rfl rfl)
theorem dX1_write_3_14 : decode cX1_write_3 14 = .ok (.lcmp, 1) := dk_148 (dk_at dksX1_write_3_0 14 rfl rfl)
theorem dX1_write_3_15 : decode cX1_write_3 15 = .ok (.ifCond .ge 7, 3) := dk_156 0 7 (dk_at dksX1_write_3_0 15 rfl rfl)
theorem dX1_write_3_18 : decode cX1_write_3 18 = .ok (.lload_n 1, 1) := dk_31 (dk_at dksX1_write_3_0 18 rfl rfl)
theorem dX1_write_3_19 : decode cX1_write_3 19 = .ok (.goto 5, 3) := dk_167 0 5 (dk_at dksX1_write_3_0 19 rfl rfl)
theorem dX1_write_3_22 : decode cX1_write_3 22 = .ok (.lload_n 1, 1) := dk_31 (dk_at dksX1_write_3_0 22 rfl rfl)
theorem dX1_write_3_23 : decode cX1_write_3 23 = .ok (.lneg, 1) := dk_117 (dk_at dksX1_write_3_0 23 rfl rfl)
theorem dX1_write_3_24 : decode cX1_write_3 24 = .ok (.lstore_n 3, 1) := dk_66 (dk_at dksX1_write_3_1 0 rfl rfl)
theorem dX1_write_3_25 : decode cX1_write_3 25 = .ok (.lconst 1, 1) := dk_10 (dk_at dksX1_write_3_1 1 rfl rfl)
theorem dX1_write_3_26 : decode cX1_write_3 26 = .ok (.lstore 5, 2) := dk_55 5 (dk_at dksX1_write_3_1 2 rfl rfl)
theorem dX1_write_3_28 : decode cX1_write_3 28 = .ok (.lload_n 3, 1) := dk_33 (dk_at dksX1_write_3_1 4 rfl rfl)
theorem dX1_write_3_29 : decode cX1_write_3 29 = .ok (.lload 5, 2) := dk_22 5 (dk_at dksX1_write_3_1 5 rfl rfl)
theorem dX1_write_3_31 : decode cX1_write_3 31 = .ok (.ldiv, 1) := dk_109 (dk_at dksX1_write_3_1 7 rfl rfl)
theorem dX1_write_3_32 : decode cX1_write_3 32 = .ok (.ldc2_w 258, 3) := dk_20 1 2 (dk_at dksX1_write_3_1 8 rfl rfl)
theorem dX1_write_3_35 : decode cX1_write_3 35 = .ok (.lcmp, 1) := dk_148 (dk_at dksX1_write_3_1 11 rfl rfl)
theorem dX1_write_3_36 : decode cX1_write_3 36 = .ok (.ifCond .gt 14, 3) := dk_157 0 14 (dk_at dksX1_write_3_1 12 rfl rfl)
theorem dX1_write_3_39 : decode cX1_write_3 39 = .ok (.lload 5, 2) := dk_22 5 (dk_at dksX1_write_3_1 15 rfl rfl)
theorem dX1_write_3_41 : decode cX1_write_3 41 = .ok (.ldc2_w 216, 3) := dk_20 0 216 (dk_at dksX1_write_3_1 17 rfl rfl)
theorem dX1_write_3_44 : decode cX1_write_3 44 = .ok (.lmul, 1) := dk_105 (dk_at dksX1_write_3_1 20 rfl rfl)
theorem dX1_write_3_45 : decode cX1_write_3 45 = .ok (.lstore 5, 2) := dk_55 5 (dk_at dksX1_write_3_1 21 rfl rfl)
theorem dX1_write_3_47 : decode cX1_write_3 47 = .ok (.goto (-19), 3) := dk_167 255 237 (dk_at dksX1_write_3_2 0 rfl rfl)
theorem dX1_write_3_50 : decode cX1_write_3 50 = .ok (.lload 5, 2) := dk_22 5 (dk_at dksX1_write_3_2 3 rfl rfl)
theorem dX1_write_3_52 : decode cX1_write_3 52 = .ok (.lconst 0, 1) := dk_9 (dk_at dksX1_write_3_2 5 rfl rfl)
theorem dX1_write_3_53 : decode cX1_write_3 53 = .ok (.lcmp, 1) := dk_148 (dk_at dksX1_write_3_2 6 rfl rfl)
theorem dX1_write_3_54 : decode cX1_write_3 54 = .ok (.ifCond .le 31, 3) := dk_158 0 31 (dk_at dksX1_write_3_2 7 rfl rfl)
theorem dX1_write_3_57 : decode cX1_write_3 57 = .ok (.aload_n 0, 1) := dk_42 (dk_at dksX1_write_3_2 10 rfl rfl)
theorem dX1_write_3_58 : decode cX1_write_3 58 = .ok (.ldc2_w 260, 3) := dk_20 1 4 (dk_at dksX1_write_3_2 11 rfl rfl)
theorem dX1_write_3_61 : decode cX1_write_3 61 = .ok (.lload_n 3, 1) := dk_33 (dk_at dksX1_write_3_2 14 rfl rfl)
theorem dX1_write_3_62 : decode cX1_write_3 62 = .ok (.lload 5, 2) := dk_22 5 (dk_at dksX1_write_3_2 15 rfl rfl)
theorem dX1_write_3_64 : decode cX1_write_3 64 = .ok (.ldiv, 1) := dk_109 (dk_at dksX1_write_3_2 17 rfl rfl)
theorem dX1_write_3_65 : decode cX1_write_3 65 = .ok (.ldc2_w 216, 3) := dk_20 0 216 (dk_at dksX1_write_3_2 18 rfl rfl)
theorem dX1_write_3_68 : decode cX1_write_3 68 = .ok (.lrem, 1) := dk_113 (dk_at dksX1_write_3_2 21 rfl rfl)
theorem dX1_write_3_69 : decode cX1_write_3 69 = .ok (.lsub, 1) := dk_101 (dk_at dksX1_write_3_2 22 rfl rfl)
theorem dX1_write_3_70 : decode cX1_write_3 70 = .ok (.l2i, 1) := dk_136 (dk_at dksX1_write_3_2 23 rfl rfl)
theorem dX1_write_3_71 : decode cX1_write_3 71 = .ok (.invokevirtual 254, 3) := dk_182 0 254 (dk_at dksX1_write_3_3 0 rfl rfl)
theorem dX1_write_3_74 : decode cX1_write_3 74 = .ok (.lload 5, 2) := dk_22 5 (dk_at dksX1_write_3_3 3 rfl rfl)
theorem dX1_write_3_76 : decode cX1_write_3 76 = .ok (.ldc2_w 216, 3) := dk_20 0 216 (dk_at dksX1_write_3_3 5 rfl rfl)
theorem dX1_write_3_79 : decode cX1_write_3 79 = .ok (.ldiv, 1) := dk_109 (dk_at dksX1_write_3_3 8 rfl rfl)
theorem dX1_write_3_80 : decode cX1_write_3 80 = .ok (.lstore 5, 2) := dk_55 5 (dk_at dksX1_write_3_3 9 rfl rfl)
theorem dX1_write_3_82 : decode cX1_write_3 82 = .ok (.goto (-32), 3) := dk_167 255 224 (dk_at dksX1_write_3_3 11 rfl rfl)
theorem dX1_write_3_85 : decode cX1_write_3 85 = .ok (.return_, 1) := dk_177 (dk_at dksX1_write_3_3 14 rfl rfl)
abbrev cX1_out : ByteArray := prog_1_method_40_code
def yX1_out : MethodName := ⟨RX1, "out", "(I)I"⟩
def dkwX1_out_1 : List UInt8 := [172]
abbrev dktX1_out_1 : List UInt8 := dkwX1_out_1 ++ []
def dkwX1_out_0 : List UInt8 := [27, 3, 42, 180, 0, 251, 4, 100, 184, 0, 51, 153, 0, 12, 42, 180, 0, 19, 27, 51, 167, 0, 4, 2]
abbrev dktX1_out_0 : List UInt8 := dkwX1_out_0 ++ dktX1_out_1
theorem dksX1_out_0 : cX1_out.data.toList.drop 0 = dktX1_out_0 := by decide +kernel
theorem dksX1_out_1 : cX1_out.data.toList.drop 24 = dktX1_out_1 := dk_seg dksX1_out_0 24 rfl rfl
theorem dX1_out_0 : decode cX1_out 0 = .ok (.iload_n 1, 1) := dk_27 (dk_at dksX1_out_0 0 rfl rfl)
theorem dX1_out_1 : decode cX1_out 1 = .ok (.iconst 0, 1) := dk_3 (dk_at dksX1_out_0 1 rfl rfl)
theorem dX1_out_2 : decode cX1_out 2 = .ok (.aload_n 0, 1) := dk_42 (dk_at dksX1_out_0 2 rfl rfl)
theorem dX1_out_3 : decode cX1_out 3 = .ok (.getfield 251, 3) := dk_180 0 251 (dk_at dksX1_out_0 3 rfl rfl)
theorem dX1_out_6 : decode cX1_out 6 = .ok (.iconst 1, 1) := dk_4 (dk_at dksX1_out_0 6 rfl rfl)
theorem dX1_out_7 : decode cX1_out 7 = .ok (.isub, 1) := dk_100 (dk_at dksX1_out_0 7 rfl rfl)
theorem dX1_out_8 : decode cX1_out 8 = .ok (.invokestatic 51, 3) := dk_184 0 51 (dk_at dksX1_out_0 8 rfl rfl)
theorem dX1_out_11 : decode cX1_out 11 = .ok (.ifCond .eq 12, 3) := dk_153 0 12 (dk_at dksX1_out_0 11 rfl rfl)
theorem dX1_out_14 : decode cX1_out 14 = .ok (.aload_n 0, 1) := dk_42 (dk_at dksX1_out_0 14 rfl rfl)
theorem dX1_out_15 : decode cX1_out 15 = .ok (.getfield 19, 3) := dk_180 0 19 (dk_at dksX1_out_0 15 rfl rfl)
theorem dX1_out_18 : decode cX1_out 18 = .ok (.iload_n 1, 1) := dk_27 (dk_at dksX1_out_0 18 rfl rfl)
theorem dX1_out_19 : decode cX1_out 19 = .ok (.baload, 1) := dk_51 (dk_at dksX1_out_0 19 rfl rfl)
theorem dX1_out_20 : decode cX1_out 20 = .ok (.goto 4, 3) := dk_167 0 4 (dk_at dksX1_out_0 20 rfl rfl)
theorem dX1_out_23 : decode cX1_out 23 = .ok (.iconst (-1), 1) := dk_2 (dk_at dksX1_out_0 23 rfl rfl)
theorem dX1_out_24 : decode cX1_out 24 = .ok (.ireturn, 1) := dk_172 (dk_at dksX1_out_1 0 rfl rfl)
abbrev cX1_plan : ByteArray := prog_1_method_41_code
def yX1_plan : MethodName := ⟨RX1, "plan", "(I)I"⟩
def dkwX1_plan_1 : List UInt8 := [167, 0, 7, 77, 16, 245, 172, 42, 180, 1, 21, 61, 42, 3, 181, 1, 21, 42, 3, 181, 1, 24, 28, 172]
abbrev dktX1_plan_1 : List UInt8 := dkwX1_plan_1 ++ []
def dkwX1_plan_0 : List UInt8 := [42, 27, 182, 0, 76, 154, 0, 6, 16, 254, 172, 42, 42, 180, 0, 11, 27, 50, 182, 0, 135, 181, 0, 25]
abbrev dktX1_plan_0 : List UInt8 := dkwX1_plan_0 ++ dktX1_plan_1
theorem dksX1_plan_0 : cX1_plan.data.toList.drop 0 = dktX1_plan_0 := by decide +kernel
theorem dksX1_plan_1 : cX1_plan.data.toList.drop 24 = dktX1_plan_1 := dk_seg dksX1_plan_0 24 rfl rfl
theorem dX1_plan_0 : decode cX1_plan 0 = .ok (.aload_n 0, 1) := dk_42 (dk_at dksX1_plan_0 0 rfl rfl)
theorem dX1_plan_1 : decode cX1_plan 1 = .ok (.iload_n 1, 1) := dk_27 (dk_at dksX1_plan_0 1 rfl rfl)
theorem dX1_plan_2 : decode cX1_plan 2 = .ok (.invokevirtual 76, 3) := dk_182 0 76 (dk_at dksX1_plan_0 2 rfl rfl)
theorem dX1_plan_5 : decode cX1_plan 5 = .ok (.ifCond .ne 6, 3) := dk_154 0 6 (dk_at dksX1_plan_0 5 rfl rfl)
theorem dX1_plan_8 : decode cX1_plan 8 = .ok (.bipush (-2), 2) := dk_16 254 (dk_at dksX1_plan_0 8 rfl rfl)
theorem dX1_plan_10 : decode cX1_plan 10 = .ok (.ireturn, 1) := dk_172 (dk_at dksX1_plan_0 10 rfl rfl)
theorem dX1_plan_11 : decode cX1_plan 11 = .ok (.aload_n 0, 1) := dk_42 (dk_at dksX1_plan_0 11 rfl rfl)
theorem dX1_plan_12 : decode cX1_plan 12 = .ok (.aload_n 0, 1) := dk_42 (dk_at dksX1_plan_0 12 rfl rfl)
theorem dX1_plan_13 : decode cX1_plan 13 = .ok (.getfield 11, 3) := dk_180 0 11 (dk_at dksX1_plan_0 13 rfl rfl)
theorem dX1_plan_16 : decode cX1_plan 16 = .ok (.iload_n 1, 1) := dk_27 (dk_at dksX1_plan_0 16 rfl rfl)
theorem dX1_plan_17 : decode cX1_plan 17 = .ok (.aaload, 1) := dk_50 (dk_at dksX1_plan_0 17 rfl rfl)
theorem dX1_plan_18 : decode cX1_plan 18 = .ok (.invokevirtual 135, 3) := dk_182 0 135 (dk_at dksX1_plan_0 18 rfl rfl)
theorem dX1_plan_21 : decode cX1_plan 21 = .ok (.putfield 25, 3) := dk_181 0 25 (dk_at dksX1_plan_0 21 rfl rfl)
theorem dX1_plan_24 : decode cX1_plan 24 = .ok (.goto 7, 3) := dk_167 0 7 (dk_at dksX1_plan_1 0 rfl rfl)
theorem dX1_plan_27 : decode cX1_plan 27 = .ok (.astore_n 2, 1) := dk_77 (dk_at dksX1_plan_1 3 rfl rfl)
theorem dX1_plan_28 : decode cX1_plan 28 = .ok (.bipush (-11), 2) := dk_16 245 (dk_at dksX1_plan_1 4 rfl rfl)
theorem dX1_plan_30 : decode cX1_plan 30 = .ok (.ireturn, 1) := dk_172 (dk_at dksX1_plan_1 6 rfl rfl)
theorem dX1_plan_31 : decode cX1_plan 31 = .ok (.aload_n 0, 1) := dk_42 (dk_at dksX1_plan_1 7 rfl rfl)
theorem dX1_plan_32 : decode cX1_plan 32 = .ok (.getfield 277, 3) := dk_180 1 21 (dk_at dksX1_plan_1 8 rfl rfl)
theorem dX1_plan_35 : decode cX1_plan 35 = .ok (.istore_n 2, 1) := dk_61 (dk_at dksX1_plan_1 11 rfl rfl)
theorem dX1_plan_36 : decode cX1_plan 36 = .ok (.aload_n 0, 1) := dk_42 (dk_at dksX1_plan_1 12 rfl rfl)
theorem dX1_plan_37 : decode cX1_plan 37 = .ok (.iconst 0, 1) := dk_3 (dk_at dksX1_plan_1 13 rfl rfl)
theorem dX1_plan_38 : decode cX1_plan 38 = .ok (.putfield 277, 3) := dk_181 1 21 (dk_at dksX1_plan_1 14 rfl rfl)
theorem dX1_plan_41 : decode cX1_plan 41 = .ok (.aload_n 0, 1) := dk_42 (dk_at dksX1_plan_1 17 rfl rfl)
theorem dX1_plan_42 : decode cX1_plan 42 = .ok (.iconst 0, 1) := dk_3 (dk_at dksX1_plan_1 18 rfl rfl)
theorem dX1_plan_43 : decode cX1_plan 43 = .ok (.putfield 280, 3) := dk_181 1 24 (dk_at dksX1_plan_1 19 rfl rfl)
theorem dX1_plan_46 : decode cX1_plan 46 = .ok (.iload_n 2, 1) := dk_28 (dk_at dksX1_plan_1 22 rfl rfl)
theorem dX1_plan_47 : decode cX1_plan 47 = .ok (.ireturn, 1) := dk_172 (dk_at dksX1_plan_1 23 rfl rfl)
abbrev cX1_rule : ByteArray := prog_1_method_42_code
def yX1_rule : MethodName := ⟨RX1, "rule", "(I)I"⟩
def dkwX1_rule_3 : List UInt8 := [42, 89, 180, 1, 21, 4, 96, 181, 1, 21, 42, 180, 1, 21, 4, 100, 172]
abbrev dktX1_rule_3 : List UInt8 := dkwX1_rule_3 ++ []
def dkwX1_rule_2 : List UInt8 := [172, 42, 180, 0, 29, 42, 180, 1, 21, 44, 182, 0, 131, 83, 42, 180, 0, 32, 42, 180, 1, 21, 3, 79]
abbrev dktX1_rule_2 : List UInt8 := dkwX1_rule_2 ++ dktX1_rule_3
def dkwX1_rule_1 : List UInt8 := [180, 0, 11, 27, 50, 77, 44, 42, 180, 0, 25, 184, 0, 124, 167, 0, 11, 78, 16, 245, 172, 78, 16, 244]
abbrev dktX1_rule_1 : List UInt8 := dkwX1_rule_1 ++ dktX1_rule_2
def dkwX1_rule_0 : List UInt8 := [42, 27, 182, 0, 76, 154, 0, 6, 16, 254, 172, 42, 180, 1, 21, 16, 12, 160, 0, 6, 16, 252, 172, 42]
abbrev dktX1_rule_0 : List UInt8 := dkwX1_rule_0 ++ dktX1_rule_1
theorem dksX1_rule_0 : cX1_rule.data.toList.drop 0 = dktX1_rule_0 := by decide +kernel
theorem dksX1_rule_1 : cX1_rule.data.toList.drop 24 = dktX1_rule_1 := dk_seg dksX1_rule_0 24 rfl rfl
theorem dksX1_rule_2 : cX1_rule.data.toList.drop 48 = dktX1_rule_2 := dk_seg dksX1_rule_1 24 rfl rfl
theorem dksX1_rule_3 : cX1_rule.data.toList.drop 72 = dktX1_rule_3 := dk_seg dksX1_rule_2 24 rfl rfl
theorem dX1_rule_0 : decode cX1_rule 0 = .ok (.aload_n 0, 1) := dk_42 (dk_at dksX1_rule_0 0 rfl rfl)
theorem dX1_rule_1 : decode cX1_rule 1 = .ok (.iload_n 1, 1) := dk_27 (dk_at dksX1_rule_0 1 rfl rfl)
theorem dX1_rule_2 : decode cX1_rule 2 = .ok (.invokevirtual 76, 3) := dk_182 0 76 (dk_at dksX1_rule_0 2 rfl rfl)
theorem dX1_rule_5 : decode cX1_rule 5 = .ok (.ifCond .ne 6, 3) := dk_154 0 6 (dk_at dksX1_rule_0 5 rfl rfl)
theorem dX1_rule_8 : decode cX1_rule 8 = .ok (.bipush (-2), 2) := dk_16 254 (dk_at dksX1_rule_0 8 rfl rfl)
theorem dX1_rule_10 : decode cX1_rule 10 = .ok (.ireturn, 1) := dk_172 (dk_at dksX1_rule_0 10 rfl rfl)
theorem dX1_rule_11 : decode cX1_rule 11 = .ok (.aload_n 0, 1) := dk_42 (dk_at dksX1_rule_0 11 rfl rfl)
theorem dX1_rule_12 : decode cX1_rule 12 = .ok (.getfield 277, 3) := dk_180 1 21 (dk_at dksX1_rule_0 12 rfl rfl)
theorem dX1_rule_15 : decode cX1_rule 15 = .ok (.bipush 12, 2) := dk_16 12 (dk_at dksX1_rule_0 15 rfl rfl)
theorem dX1_rule_17 : decode cX1_rule 17 = .ok (.if_icmp .ne 6, 3) := dk_160 0 6 (dk_at dksX1_rule_0 17 rfl rfl)
theorem dX1_rule_20 : decode cX1_rule 20 = .ok (.bipush (-4), 2) := dk_16 252 (dk_at dksX1_rule_0 20 rfl rfl)
theorem dX1_rule_22 : decode cX1_rule 22 = .ok (.ireturn, 1) := dk_172 (dk_at dksX1_rule_0 22 rfl rfl)
theorem dX1_rule_23 : decode cX1_rule 23 = .ok (.aload_n 0, 1) := dk_42 (dk_at dksX1_rule_0 23 rfl rfl)
theorem dX1_rule_24 : decode cX1_rule 24 = .ok (.getfield 11, 3) := dk_180 0 11 (dk_at dksX1_rule_1 0 rfl rfl)
theorem dX1_rule_27 : decode cX1_rule 27 = .ok (.iload_n 1, 1) := dk_27 (dk_at dksX1_rule_1 3 rfl rfl)
theorem dX1_rule_28 : decode cX1_rule 28 = .ok (.aaload, 1) := dk_50 (dk_at dksX1_rule_1 4 rfl rfl)
theorem dX1_rule_29 : decode cX1_rule 29 = .ok (.astore_n 2, 1) := dk_77 (dk_at dksX1_rule_1 5 rfl rfl)
theorem dX1_rule_30 : decode cX1_rule 30 = .ok (.aload_n 2, 1) := dk_44 (dk_at dksX1_rule_1 6 rfl rfl)
theorem dX1_rule_31 : decode cX1_rule 31 = .ok (.aload_n 0, 1) := dk_42 (dk_at dksX1_rule_1 7 rfl rfl)
theorem dX1_rule_32 : decode cX1_rule 32 = .ok (.getfield 25, 3) := dk_180 0 25 (dk_at dksX1_rule_1 8 rfl rfl)
theorem dX1_rule_35 : decode cX1_rule 35 = .ok (.invokestatic 124, 3) := dk_184 0 124 (dk_at dksX1_rule_1 11 rfl rfl)
theorem dX1_rule_38 : decode cX1_rule 38 = .ok (.goto 11, 3) := dk_167 0 11 (dk_at dksX1_rule_1 14 rfl rfl)
theorem dX1_rule_41 : decode cX1_rule 41 = .ok (.astore_n 3, 1) := dk_78 (dk_at dksX1_rule_1 17 rfl rfl)
theorem dX1_rule_42 : decode cX1_rule 42 = .ok (.bipush (-11), 2) := dk_16 245 (dk_at dksX1_rule_1 18 rfl rfl)
theorem dX1_rule_44 : decode cX1_rule 44 = .ok (.ireturn, 1) := dk_172 (dk_at dksX1_rule_1 20 rfl rfl)
theorem dX1_rule_45 : decode cX1_rule 45 = .ok (.astore_n 3, 1) := dk_78 (dk_at dksX1_rule_1 21 rfl rfl)
theorem dX1_rule_46 : decode cX1_rule 46 = .ok (.bipush (-12), 2) := dk_16 244 (dk_at dksX1_rule_1 22 rfl rfl)
theorem dX1_rule_48 : decode cX1_rule 48 = .ok (.ireturn, 1) := dk_172 (dk_at dksX1_rule_2 0 rfl rfl)
theorem dX1_rule_49 : decode cX1_rule 49 = .ok (.aload_n 0, 1) := dk_42 (dk_at dksX1_rule_2 1 rfl rfl)
theorem dX1_rule_50 : decode cX1_rule 50 = .ok (.getfield 29, 3) := dk_180 0 29 (dk_at dksX1_rule_2 2 rfl rfl)
theorem dX1_rule_53 : decode cX1_rule 53 = .ok (.aload_n 0, 1) := dk_42 (dk_at dksX1_rule_2 5 rfl rfl)
theorem dX1_rule_54 : decode cX1_rule 54 = .ok (.getfield 277, 3) := dk_180 1 21 (dk_at dksX1_rule_2 6 rfl rfl)
theorem dX1_rule_57 : decode cX1_rule 57 = .ok (.aload_n 2, 1) := dk_44 (dk_at dksX1_rule_2 9 rfl rfl)
theorem dX1_rule_58 : decode cX1_rule 58 = .ok (.invokevirtual 131, 3) := dk_182 0 131 (dk_at dksX1_rule_2 10 rfl rfl)
theorem dX1_rule_61 : decode cX1_rule 61 = .ok (.aastore, 1) := dk_83 (dk_at dksX1_rule_2 13 rfl rfl)
theorem dX1_rule_62 : decode cX1_rule 62 = .ok (.aload_n 0, 1) := dk_42 (dk_at dksX1_rule_2 14 rfl rfl)
theorem dX1_rule_63 : decode cX1_rule 63 = .ok (.getfield 32, 3) := dk_180 0 32 (dk_at dksX1_rule_2 15 rfl rfl)
theorem dX1_rule_66 : decode cX1_rule 66 = .ok (.aload_n 0, 1) := dk_42 (dk_at dksX1_rule_2 18 rfl rfl)
theorem dX1_rule_67 : decode cX1_rule 67 = .ok (.getfield 277, 3) := dk_180 1 21 (dk_at dksX1_rule_2 19 rfl rfl)
theorem dX1_rule_70 : decode cX1_rule 70 = .ok (.iconst 0, 1) := dk_3 (dk_at dksX1_rule_2 22 rfl rfl)
theorem dX1_rule_71 : decode cX1_rule 71 = .ok (.iastore, 1) := dk_79 (dk_at dksX1_rule_2 23 rfl rfl)
theorem dX1_rule_72 : decode cX1_rule 72 = .ok (.aload_n 0, 1) := dk_42 (dk_at dksX1_rule_3 0 rfl rfl)
theorem dX1_rule_73 : decode cX1_rule 73 = .ok (.dup, 1) := dk_89 (dk_at dksX1_rule_3 1 rfl rfl)
theorem dX1_rule_74 : decode cX1_rule 74 = .ok (.getfield 277, 3) := dk_180 1 21 (dk_at dksX1_rule_3 2 rfl rfl)
theorem dX1_rule_77 : decode cX1_rule 77 = .ok (.iconst 1, 1) := dk_4 (dk_at dksX1_rule_3 5 rfl rfl)
theorem dX1_rule_78 : decode cX1_rule 78 = .ok (.iadd, 1) := dk_96 (dk_at dksX1_rule_3 6 rfl rfl)
theorem dX1_rule_79 : decode cX1_rule 79 = .ok (.putfield 277, 3) := dk_181 1 21 (dk_at dksX1_rule_3 7 rfl rfl)
theorem dX1_rule_82 : decode cX1_rule 82 = .ok (.aload_n 0, 1) := dk_42 (dk_at dksX1_rule_3 10 rfl rfl)
theorem dX1_rule_83 : decode cX1_rule 83 = .ok (.getfield 277, 3) := dk_180 1 21 (dk_at dksX1_rule_3 11 rfl rfl)
theorem dX1_rule_86 : decode cX1_rule 86 = .ok (.iconst 1, 1) := dk_4 (dk_at dksX1_rule_3 14 rfl rfl)
theorem dX1_rule_87 : decode cX1_rule 87 = .ok (.isub, 1) := dk_100 (dk_at dksX1_rule_3 15 rfl rfl)
theorem dX1_rule_88 : decode cX1_rule 88 = .ok (.ireturn, 1) := dk_172 (dk_at dksX1_rule_3 16 rfl rfl)
abbrev cX1_count : ByteArray := prog_1_method_46_code
def yX1_count : MethodName := ⟨RX1, "count", "(II)I"⟩
def dkwX1_count_2 : List UInt8 := [180, 0, 32, 27, 29, 79, 16, 240, 172, 29, 172]
abbrev dktX1_count_2 : List UInt8 := dkwX1_count_2 ++ []
def dkwX1_count_1 : List UInt8 := [172, 42, 180, 0, 32, 27, 46, 62, 42, 180, 0, 32, 27, 28, 79, 42, 27, 182, 1, 35, 154, 0, 13, 42]
abbrev dktX1_count_1 : List UInt8 := dkwX1_count_1 ++ dktX1_count_2
def dkwX1_count_0 : List UInt8 := [42, 27, 182, 1, 31, 154, 0, 6, 16, 254, 172, 28, 3, 19, 1, 34, 184, 0, 51, 154, 0, 6, 16, 253]
abbrev dktX1_count_0 : List UInt8 := dkwX1_count_0 ++ dktX1_count_1
theorem dksX1_count_0 : cX1_count.data.toList.drop 0 = dktX1_count_0 := by decide +kernel
theorem dksX1_count_1 : cX1_count.data.toList.drop 24 = dktX1_count_1 := dk_seg dksX1_count_0 24 rfl rfl
theorem dksX1_count_2 : cX1_count.data.toList.drop 48 = dktX1_count_2 := dk_seg dksX1_count_1 24 rfl rfl
theorem dX1_count_0 : decode cX1_count 0 = .ok (.aload_n 0, 1) := dk_42 (dk_at dksX1_count_0 0 rfl rfl)
theorem dX1_count_1 : decode cX1_count 1 = .ok (.iload_n 1, 1) := dk_27 (dk_at dksX1_count_0 1 rfl rfl)
theorem dX1_count_2 : decode cX1_count 2 = .ok (.invokevirtual 287, 3) := dk_182 1 31 (dk_at dksX1_count_0 2 rfl rfl)
theorem dX1_count_5 : decode cX1_count 5 = .ok (.ifCond .ne 6, 3) := dk_154 0 6 (dk_at dksX1_count_0 5 rfl rfl)
theorem dX1_count_8 : decode cX1_count 8 = .ok (.bipush (-2), 2) := dk_16 254 (dk_at dksX1_count_0 8 rfl rfl)
theorem dX1_count_10 : decode cX1_count 10 = .ok (.ireturn, 1) := dk_172 (dk_at dksX1_count_0 10 rfl rfl)
theorem dX1_count_11 : decode cX1_count 11 = .ok (.iload_n 2, 1) := dk_28 (dk_at dksX1_count_0 11 rfl rfl)
theorem dX1_count_12 : decode cX1_count 12 = .ok (.iconst 0, 1) := dk_3 (dk_at dksX1_count_0 12 rfl rfl)
theorem dX1_count_13 : decode cX1_count 13 = .ok (.ldc_w 290, 3) := dk_19 1 34 (dk_at dksX1_count_0 13 rfl rfl)
theorem dX1_count_16 : decode cX1_count 16 = .ok (.invokestatic 51, 3) := dk_184 0 51 (dk_at dksX1_count_0 16 rfl rfl)
theorem dX1_count_19 : decode cX1_count 19 = .ok (.ifCond .ne 6, 3) := dk_154 0 6 (dk_at dksX1_count_0 19 rfl rfl)
theorem dX1_count_22 : decode cX1_count 22 = .ok (.bipush (-3), 2) := dk_16 253 (dk_at dksX1_count_0 22 rfl rfl)
theorem dX1_count_24 : decode cX1_count 24 = .ok (.ireturn, 1) := dk_172 (dk_at dksX1_count_1 0 rfl rfl)
theorem dX1_count_25 : decode cX1_count 25 = .ok (.aload_n 0, 1) := dk_42 (dk_at dksX1_count_1 1 rfl rfl)
theorem dX1_count_26 : decode cX1_count 26 = .ok (.getfield 32, 3) := dk_180 0 32 (dk_at dksX1_count_1 2 rfl rfl)
theorem dX1_count_29 : decode cX1_count 29 = .ok (.iload_n 1, 1) := dk_27 (dk_at dksX1_count_1 5 rfl rfl)
theorem dX1_count_30 : decode cX1_count 30 = .ok (.iaload, 1) := dk_46 (dk_at dksX1_count_1 6 rfl rfl)
theorem dX1_count_31 : decode cX1_count 31 = .ok (.istore_n 3, 1) := dk_62 (dk_at dksX1_count_1 7 rfl rfl)
theorem dX1_count_32 : decode cX1_count 32 = .ok (.aload_n 0, 1) := dk_42 (dk_at dksX1_count_1 8 rfl rfl)
theorem dX1_count_33 : decode cX1_count 33 = .ok (.getfield 32, 3) := dk_180 0 32 (dk_at dksX1_count_1 9 rfl rfl)
theorem dX1_count_36 : decode cX1_count 36 = .ok (.iload_n 1, 1) := dk_27 (dk_at dksX1_count_1 12 rfl rfl)
theorem dX1_count_37 : decode cX1_count 37 = .ok (.iload_n 2, 1) := dk_28 (dk_at dksX1_count_1 13 rfl rfl)
theorem dX1_count_38 : decode cX1_count 38 = .ok (.iastore, 1) := dk_79 (dk_at dksX1_count_1 14 rfl rfl)
theorem dX1_count_39 : decode cX1_count 39 = .ok (.aload_n 0, 1) := dk_42 (dk_at dksX1_count_1 15 rfl rfl)
theorem dX1_count_40 : decode cX1_count 40 = .ok (.iload_n 1, 1) := dk_27 (dk_at dksX1_count_1 16 rfl rfl)
theorem dX1_count_41 : decode cX1_count 41 = .ok (.invokevirtual 291, 3) := dk_182 1 35 (dk_at dksX1_count_1 17 rfl rfl)
theorem dX1_count_44 : decode cX1_count 44 = .ok (.ifCond .ne 13, 3) := dk_154 0 13 (dk_at dksX1_count_1 20 rfl rfl)
theorem dX1_count_47 : decode cX1_count 47 = .ok (.aload_n 0, 1) := dk_42 (dk_at dksX1_count_1 23 rfl rfl)
theorem dX1_count_48 : decode cX1_count 48 = .ok (.getfield 32, 3) := dk_180 0 32 (dk_at dksX1_count_2 0 rfl rfl)
theorem dX1_count_51 : decode cX1_count 51 = .ok (.iload_n 1, 1) := dk_27 (dk_at dksX1_count_2 3 rfl rfl)
theorem dX1_count_52 : decode cX1_count 52 = .ok (.iload_n 3, 1) := dk_29 (dk_at dksX1_count_2 4 rfl rfl)
theorem dX1_count_53 : decode cX1_count 53 = .ok (.iastore, 1) := dk_79 (dk_at dksX1_count_2 5 rfl rfl)
theorem dX1_count_54 : decode cX1_count 54 = .ok (.bipush (-16), 2) := dk_16 240 (dk_at dksX1_count_2 6 rfl rfl)
theorem dX1_count_56 : decode cX1_count 56 = .ok (.ireturn, 1) := dk_172 (dk_at dksX1_count_2 8 rfl rfl)
theorem dX1_count_57 : decode cX1_count 57 = .ok (.iload_n 3, 1) := dk_29 (dk_at dksX1_count_2 9 rfl rfl)
theorem dX1_count_58 : decode cX1_count 58 = .ok (.ireturn, 1) := dk_172 (dk_at dksX1_count_2 10 rfl rfl)
abbrev cX1_isRule : ByteArray := prog_1_method_43_code
def yX1_isRule : MethodName := ⟨RX1, "isRule", "(I)Z"⟩
def dkwX1_isRule_0 : List UInt8 := [27, 3, 42, 180, 1, 21, 4, 100, 184, 0, 51, 172]
abbrev dktX1_isRule_0 : List UInt8 := dkwX1_isRule_0 ++ []
theorem dksX1_isRule_0 : cX1_isRule.data.toList.drop 0 = dktX1_isRule_0 := by decide +kernel
theorem dX1_isRule_0 : decode cX1_isRule 0 = .ok (.iload_n 1, 1) := dk_27 (dk_at dksX1_isRule_0 0 rfl rfl)
theorem dX1_isRule_1 : decode cX1_isRule 1 = .ok (.iconst 0, 1) := dk_3 (dk_at dksX1_isRule_0 1 rfl rfl)
theorem dX1_isRule_2 : decode cX1_isRule 2 = .ok (.aload_n 0, 1) := dk_42 (dk_at dksX1_isRule_0 2 rfl rfl)
theorem dX1_isRule_3 : decode cX1_isRule 3 = .ok (.getfield 277, 3) := dk_180 1 21 (dk_at dksX1_isRule_0 3 rfl rfl)
theorem dX1_isRule_6 : decode cX1_isRule 6 = .ok (.iconst 1, 1) := dk_4 (dk_at dksX1_isRule_0 6 rfl rfl)
theorem dX1_isRule_7 : decode cX1_isRule 7 = .ok (.isub, 1) := dk_100 (dk_at dksX1_isRule_0 7 rfl rfl)
theorem dX1_isRule_8 : decode cX1_isRule 8 = .ok (.invokestatic 51, 3) := dk_184 0 51 (dk_at dksX1_isRule_0 8 rfl rfl)
theorem dX1_isRule_11 : decode cX1_isRule 11 = .ok (.ireturn, 1) := dk_172 (dk_at dksX1_isRule_0 11 rfl rfl)
abbrev cX1_isNarrow : ByteArray := prog_1_method_45_code
def yX1_isNarrow : MethodName := ⟨RX1, "isNarrow", "(I)Z"⟩
def dkwX1_isNarrow_1 : List UInt8 := [172, 4, 172]
abbrev dktX1_isNarrow_1 : List UInt8 := dkwX1_isNarrow_1 ++ []
def dkwX1_isNarrow_0 : List UInt8 := [42, 27, 27, 4, 96, 182, 1, 27, 77, 42, 3, 42, 180, 1, 21, 182, 1, 27, 78, 167, 0, 6, 77, 3]
abbrev dktX1_isNarrow_0 : List UInt8 := dkwX1_isNarrow_0 ++ dktX1_isNarrow_1
theorem dksX1_isNarrow_0 : cX1_isNarrow.data.toList.drop 0 = dktX1_isNarrow_0 := by decide +kernel
theorem dksX1_isNarrow_1 : cX1_isNarrow.data.toList.drop 24 = dktX1_isNarrow_1 := dk_seg dksX1_isNarrow_0 24 rfl rfl
theorem dX1_isNarrow_0 : decode cX1_isNarrow 0 = .ok (.aload_n 0, 1) := dk_42 (dk_at dksX1_isNarrow_0 0 rfl rfl)
theorem dX1_isNarrow_1 : decode cX1_isNarrow 1 = .ok (.iload_n 1, 1) := dk_27 (dk_at dksX1_isNarrow_0 1 rfl rfl)
theorem dX1_isNarrow_2 : decode cX1_isNarrow 2 = .ok (.iload_n 1, 1) := dk_27 (dk_at dksX1_isNarrow_0 2 rfl rfl)
theorem dX1_isNarrow_3 : decode cX1_isNarrow 3 = .ok (.iconst 1, 1) := dk_4 (dk_at dksX1_isNarrow_0 3 rfl rfl)
theorem dX1_isNarrow_4 : decode cX1_isNarrow 4 = .ok (.iadd, 1) := dk_96 (dk_at dksX1_isNarrow_0 4 rfl rfl)
theorem dX1_isNarrow_5 : decode cX1_isNarrow 5 = .ok (.invokevirtual 283, 3) := dk_182 1 27 (dk_at dksX1_isNarrow_0 5 rfl rfl)
theorem dX1_isNarrow_8 : decode cX1_isNarrow 8 = .ok (.astore_n 2, 1) := dk_77 (dk_at dksX1_isNarrow_0 8 rfl rfl)
theorem dX1_isNarrow_9 : decode cX1_isNarrow 9 = .ok (.aload_n 0, 1) := dk_42 (dk_at dksX1_isNarrow_0 9 rfl rfl)
theorem dX1_isNarrow_10 : decode cX1_isNarrow 10 = .ok (.iconst 0, 1) := dk_3 (dk_at dksX1_isNarrow_0 10 rfl rfl)
theorem dX1_isNarrow_11 : decode cX1_isNarrow 11 = .ok (.aload_n 0, 1) := dk_42 (dk_at dksX1_isNarrow_0 11 rfl rfl)
theorem dX1_isNarrow_12 : decode cX1_isNarrow 12 = .ok (.getfield 277, 3) := dk_180 1 21 (dk_at dksX1_isNarrow_0 12 rfl rfl)
theorem dX1_isNarrow_15 : decode cX1_isNarrow 15 = .ok (.invokevirtual 283, 3) := dk_182 1 27 (dk_at dksX1_isNarrow_0 15 rfl rfl)
theorem dX1_isNarrow_18 : decode cX1_isNarrow 18 = .ok (.astore_n 3, 1) := dk_78 (dk_at dksX1_isNarrow_0 18 rfl rfl)
theorem dX1_isNarrow_19 : decode cX1_isNarrow 19 = .ok (.goto 6, 3) := dk_167 0 6 (dk_at dksX1_isNarrow_0 19 rfl rfl)
theorem dX1_isNarrow_22 : decode cX1_isNarrow 22 = .ok (.astore_n 2, 1) := dk_77 (dk_at dksX1_isNarrow_0 22 rfl rfl)
theorem dX1_isNarrow_23 : decode cX1_isNarrow 23 = .ok (.iconst 0, 1) := dk_3 (dk_at dksX1_isNarrow_0 23 rfl rfl)
theorem dX1_isNarrow_24 : decode cX1_isNarrow 24 = .ok (.ireturn, 1) := dk_172 (dk_at dksX1_isNarrow_1 0 rfl rfl)
theorem dX1_isNarrow_25 : decode cX1_isNarrow 25 = .ok (.iconst 1, 1) := dk_4 (dk_at dksX1_isNarrow_1 1 rfl rfl)
theorem dX1_isNarrow_26 : decode cX1_isNarrow 26 = .ok (.ireturn, 1) := dk_172 (dk_at dksX1_isNarrow_1 2 rfl rfl)
abbrev cX1_summed : ByteArray := prog_1_method_44_code
def yX1_summed : MethodName := ⟨RX1, "summed", "(II)LLevelScores$Score;"⟩
def dkwX1_summed_3 : List UInt8 := [21, 4, 42, 182, 0, 171, 80, 132, 4, 1, 167, 255, 188, 45, 176]
abbrev dktX1_summed_3 : List UInt8 := dkwX1_summed_3 ++ []
def dkwX1_summed_2 : List UInt8 := [21, 4, 47, 42, 180, 0, 32, 21, 5, 46, 133, 182, 0, 167, 132, 5, 1, 167, 255, 222, 45, 180, 0, 80]
abbrev dktX1_summed_2 : List UInt8 := dkwX1_summed_2 ++ dktX1_summed_3
def dkwX1_summed_1 : List UInt8 := [182, 0, 164, 27, 54, 5, 21, 5, 28, 162, 0, 34, 42, 42, 180, 0, 29, 21, 5, 50, 180, 0, 80]
abbrev dktX1_summed_1 : List UInt8 := dkwX1_summed_1 ++ dktX1_summed_2
def dkwX1_summed_0 : List UInt8 := [42, 180, 0, 25, 182, 0, 135, 78, 3, 54, 4, 21, 4, 45, 180, 0, 80, 190, 162, 0, 64, 42]
abbrev dktX1_summed_0 : List UInt8 := dkwX1_summed_0 ++ dktX1_summed_1
theorem dksX1_summed_0 : cX1_summed.data.toList.drop 0 = dktX1_summed_0 := by decide +kernel
theorem dksX1_summed_1 : cX1_summed.data.toList.drop 22 = dktX1_summed_1 := dk_seg dksX1_summed_0 22 rfl rfl
theorem dksX1_summed_2 : cX1_summed.data.toList.drop 45 = dktX1_summed_2 := dk_seg dksX1_summed_1 23 rfl rfl
theorem dksX1_summed_3 : cX1_summed.data.toList.drop 69 = dktX1_summed_3 := dk_seg dksX1_summed_2 24 rfl rfl
theorem dX1_summed_0 : decode cX1_summed 0 = .ok (.aload_n 0, 1) := dk_42 (dk_at dksX1_summed_0 0 rfl rfl)
theorem dX1_summed_1 : decode cX1_summed 1 = .ok (.getfield 25, 3) := dk_180 0 25 (dk_at dksX1_summed_0 1 rfl rfl)
theorem dX1_summed_4 : decode cX1_summed 4 = .ok (.invokevirtual 135, 3) := dk_182 0 135 (dk_at dksX1_summed_0 4 rfl rfl)
theorem dX1_summed_7 : decode cX1_summed 7 = .ok (.astore_n 3, 1) := dk_78 (dk_at dksX1_summed_0 7 rfl rfl)
theorem dX1_summed_8 : decode cX1_summed 8 = .ok (.iconst 0, 1) := dk_3 (dk_at dksX1_summed_0 8 rfl rfl)
theorem dX1_summed_9 : decode cX1_summed 9 = .ok (.istore 4, 2) := dk_54 4 (dk_at dksX1_summed_0 9 rfl rfl)
theorem dX1_summed_11 : decode cX1_summed 11 = .ok (.iload 4, 2) := dk_21 4 (dk_at dksX1_summed_0 11 rfl rfl)
theorem dX1_summed_13 : decode cX1_summed 13 = .ok (.aload_n 3, 1) := dk_45 (dk_at dksX1_summed_0 13 rfl rfl)
theorem dX1_summed_14 : decode cX1_summed 14 = .ok (.getfield 80, 3) := dk_180 0 80 (dk_at dksX1_summed_0 14 rfl rfl)
theorem dX1_summed_17 : decode cX1_summed 17 = .ok (.arraylength, 1) := dk_190 (dk_at dksX1_summed_0 17 rfl rfl)
theorem dX1_summed_18 : decode cX1_summed 18 = .ok (.if_icmp .ge 64, 3) := dk_162 0 64 (dk_at dksX1_summed_0 18 rfl rfl)
theorem dX1_summed_21 : decode cX1_summed 21 = .ok (.aload_n 0, 1) := dk_42 (dk_at dksX1_summed_0 21 rfl rfl)
theorem dX1_summed_22 : decode cX1_summed 22 = .ok (.invokevirtual 164, 3) := dk_182 0 164 (dk_at dksX1_summed_1 0 rfl rfl)
theorem dX1_summed_25 : decode cX1_summed 25 = .ok (.iload_n 1, 1) := dk_27 (dk_at dksX1_summed_1 3 rfl rfl)
theorem dX1_summed_26 : decode cX1_summed 26 = .ok (.istore 5, 2) := dk_54 5 (dk_at dksX1_summed_1 4 rfl rfl)
theorem dX1_summed_28 : decode cX1_summed 28 = .ok (.iload 5, 2) := dk_21 5 (dk_at dksX1_summed_1 6 rfl rfl)
theorem dX1_summed_30 : decode cX1_summed 30 = .ok (.iload_n 2, 1) := dk_28 (dk_at dksX1_summed_1 8 rfl rfl)
theorem dX1_summed_31 : decode cX1_summed 31 = .ok (.if_icmp .ge 34, 3) := dk_162 0 34 (dk_at dksX1_summed_1 9 rfl rfl)
theorem dX1_summed_34 : decode cX1_summed 34 = .ok (.aload_n 0, 1) := dk_42 (dk_at dksX1_summed_1 12 rfl rfl)
theorem dX1_summed_35 : decode cX1_summed 35 = .ok (.aload_n 0, 1) := dk_42 (dk_at dksX1_summed_1 13 rfl rfl)
theorem dX1_summed_36 : decode cX1_summed 36 = .ok (.getfield 29, 3) := dk_180 0 29 (dk_at dksX1_summed_1 14 rfl rfl)
theorem dX1_summed_39 : decode cX1_summed 39 = .ok (.iload 5, 2) := dk_21 5 (dk_at dksX1_summed_1 17 rfl rfl)
theorem dX1_summed_41 : decode cX1_summed 41 = .ok (.aaload, 1) := dk_50 (dk_at dksX1_summed_1 19 rfl rfl)
theorem dX1_summed_42 : decode cX1_summed 42 = .ok (.getfield 80, 3) := dk_180 0 80 (dk_at dksX1_summed_1 20 rfl rfl)
theorem dX1_summed_45 : decode cX1_summed 45 = .ok (.iload 4, 2) := dk_21 4 (dk_at dksX1_summed_2 0 rfl rfl)
theorem dX1_summed_47 : decode cX1_summed 47 = .ok (.laload, 1) := dk_47 (dk_at dksX1_summed_2 2 rfl rfl)
theorem dX1_summed_48 : decode cX1_summed 48 = .ok (.aload_n 0, 1) := dk_42 (dk_at dksX1_summed_2 3 rfl rfl)
theorem dX1_summed_49 : decode cX1_summed 49 = .ok (.getfield 32, 3) := dk_180 0 32 (dk_at dksX1_summed_2 4 rfl rfl)
theorem dX1_summed_52 : decode cX1_summed 52 = .ok (.iload 5, 2) := dk_21 5 (dk_at dksX1_summed_2 7 rfl rfl)
theorem dX1_summed_54 : decode cX1_summed 54 = .ok (.iaload, 1) := dk_46 (dk_at dksX1_summed_2 9 rfl rfl)
theorem dX1_summed_55 : decode cX1_summed 55 = .ok (.i2l, 1) := dk_133 (dk_at dksX1_summed_2 10 rfl rfl)
theorem dX1_summed_56 : decode cX1_summed 56 = .ok (.invokevirtual 167, 3) := dk_182 0 167 (dk_at dksX1_summed_2 11 rfl rfl)
theorem dX1_summed_59 : decode cX1_summed 59 = .ok (.iinc 5 1, 3) := dk_132 5 1 (dk_at dksX1_summed_2 14 rfl rfl)
theorem dX1_summed_62 : decode cX1_summed 62 = .ok (.goto (-34), 3) := dk_167 255 222 (dk_at dksX1_summed_2 17 rfl rfl)
theorem dX1_summed_65 : decode cX1_summed 65 = .ok (.aload_n 3, 1) := dk_45 (dk_at dksX1_summed_2 20 rfl rfl)
theorem dX1_summed_66 : decode cX1_summed 66 = .ok (.getfield 80, 3) := dk_180 0 80 (dk_at dksX1_summed_2 21 rfl rfl)
theorem dX1_summed_69 : decode cX1_summed 69 = .ok (.iload 4, 2) := dk_21 4 (dk_at dksX1_summed_3 0 rfl rfl)
theorem dX1_summed_71 : decode cX1_summed 71 = .ok (.aload_n 0, 1) := dk_42 (dk_at dksX1_summed_3 2 rfl rfl)
theorem dX1_summed_72 : decode cX1_summed 72 = .ok (.invokevirtual 171, 3) := dk_182 0 171 (dk_at dksX1_summed_3 3 rfl rfl)
theorem dX1_summed_75 : decode cX1_summed 75 = .ok (.lastore, 1) := dk_80 (dk_at dksX1_summed_3 6 rfl rfl)
theorem dX1_summed_76 : decode cX1_summed 76 = .ok (.iinc 4 1, 3) := dk_132 4 1 (dk_at dksX1_summed_3 7 rfl rfl)
theorem dX1_summed_79 : decode cX1_summed 79 = .ok (.goto (-68), 3) := dk_167 255 188 (dk_at dksX1_summed_3 10 rfl rfl)
theorem dX1_summed_82 : decode cX1_summed 82 = .ok (.aload_n 3, 1) := dk_45 (dk_at dksX1_summed_3 13 rfl rfl)
theorem dX1_summed_83 : decode cX1_summed 83 = .ok (.areturn, 1) := dk_176 (dk_at dksX1_summed_3 14 rfl rfl)
abbrev cX1_weight : ByteArray := prog_1_method_47_code
def yX1_weight : MethodName := ⟨RX1, "weight", "(II)I"⟩
def dkwX1_weight_3 : List UInt8 := [154, 0, 14, 42, 180, 0, 29, 27, 25, 4, 83, 16, 240, 172, 4, 172]
abbrev dktX1_weight_3 : List UInt8 := dkwX1_weight_3 ++ []
def dkwX1_weight_2 : List UInt8 := [180, 0, 29, 27, 50, 58, 4, 42, 180, 0, 29, 27, 45, 182, 0, 131, 83, 42, 27, 182, 1, 35]
abbrev dktX1_weight_2 : List UInt8 := dkwX1_weight_2 ++ dktX1_weight_3
def dkwX1_weight_1 : List UInt8 := [50, 78, 45, 42, 180, 0, 25, 184, 0, 124, 167, 0, 13, 58, 4, 16, 245, 172, 58, 4, 16, 244, 172, 42]
abbrev dktX1_weight_1 : List UInt8 := dkwX1_weight_1 ++ dktX1_weight_2
def dkwX1_weight_0 : List UInt8 := [42, 27, 182, 1, 31, 153, 0, 11, 42, 28, 182, 0, 76, 154, 0, 6, 16, 254, 172, 42, 180, 0, 11, 28]
abbrev dktX1_weight_0 : List UInt8 := dkwX1_weight_0 ++ dktX1_weight_1
theorem dksX1_weight_0 : cX1_weight.data.toList.drop 0 = dktX1_weight_0 := by decide +kernel
theorem dksX1_weight_1 : cX1_weight.data.toList.drop 24 = dktX1_weight_1 := dk_seg dksX1_weight_0 24 rfl rfl
theorem dksX1_weight_2 : cX1_weight.data.toList.drop 48 = dktX1_weight_2 := dk_seg dksX1_weight_1 24 rfl rfl
theorem dksX1_weight_3 : cX1_weight.data.toList.drop 70 = dktX1_weight_3 := dk_seg dksX1_weight_2 22 rfl rfl
theorem dX1_weight_0 : decode cX1_weight 0 = .ok (.aload_n 0, 1) := dk_42 (dk_at dksX1_weight_0 0 rfl rfl)
theorem dX1_weight_1 : decode cX1_weight 1 = .ok (.iload_n 1, 1) := dk_27 (dk_at dksX1_weight_0 1 rfl rfl)
theorem dX1_weight_2 : decode cX1_weight 2 = .ok (.invokevirtual 287, 3) := dk_182 1 31 (dk_at dksX1_weight_0 2 rfl rfl)
theorem dX1_weight_5 : decode cX1_weight 5 = .ok (.ifCond .eq 11, 3) := dk_153 0 11 (dk_at dksX1_weight_0 5 rfl rfl)
theorem dX1_weight_8 : decode cX1_weight 8 = .ok (.aload_n 0, 1) := dk_42 (dk_at dksX1_weight_0 8 rfl rfl)
theorem dX1_weight_9 : decode cX1_weight 9 = .ok (.iload_n 2, 1) := dk_28 (dk_at dksX1_weight_0 9 rfl rfl)
theorem dX1_weight_10 : decode cX1_weight 10 = .ok (.invokevirtual 76, 3) := dk_182 0 76 (dk_at dksX1_weight_0 10 rfl rfl)
theorem dX1_weight_13 : decode cX1_weight 13 = .ok (.ifCond .ne 6, 3) := dk_154 0 6 (dk_at dksX1_weight_0 13 rfl rfl)
theorem dX1_weight_16 : decode cX1_weight 16 = .ok (.bipush (-2), 2) := dk_16 254 (dk_at dksX1_weight_0 16 rfl rfl)
theorem dX1_weight_18 : decode cX1_weight 18 = .ok (.ireturn, 1) := dk_172 (dk_at dksX1_weight_0 18 rfl rfl)
theorem dX1_weight_19 : decode cX1_weight 19 = .ok (.aload_n 0, 1) := dk_42 (dk_at dksX1_weight_0 19 rfl rfl)
theorem dX1_weight_20 : decode cX1_weight 20 = .ok (.getfield 11, 3) := dk_180 0 11 (dk_at dksX1_weight_0 20 rfl rfl)
theorem dX1_weight_23 : decode cX1_weight 23 = .ok (.iload_n 2, 1) := dk_28 (dk_at dksX1_weight_0 23 rfl rfl)
theorem dX1_weight_24 : decode cX1_weight 24 = .ok (.aaload, 1) := dk_50 (dk_at dksX1_weight_1 0 rfl rfl)
theorem dX1_weight_25 : decode cX1_weight 25 = .ok (.astore_n 3, 1) := dk_78 (dk_at dksX1_weight_1 1 rfl rfl)
theorem dX1_weight_26 : decode cX1_weight 26 = .ok (.aload_n 3, 1) := dk_45 (dk_at dksX1_weight_1 2 rfl rfl)
theorem dX1_weight_27 : decode cX1_weight 27 = .ok (.aload_n 0, 1) := dk_42 (dk_at dksX1_weight_1 3 rfl rfl)
theorem dX1_weight_28 : decode cX1_weight 28 = .ok (.getfield 25, 3) := dk_180 0 25 (dk_at dksX1_weight_1 4 rfl rfl)
theorem dX1_weight_31 : decode cX1_weight 31 = .ok (.invokestatic 124, 3) := dk_184 0 124 (dk_at dksX1_weight_1 7 rfl rfl)
theorem dX1_weight_34 : decode cX1_weight 34 = .ok (.goto 13, 3) := dk_167 0 13 (dk_at dksX1_weight_1 10 rfl rfl)
theorem dX1_weight_37 : decode cX1_weight 37 = .ok (.astore 4, 2) := dk_58 4 (dk_at dksX1_weight_1 13 rfl rfl)
theorem dX1_weight_39 : decode cX1_weight 39 = .ok (.bipush (-11), 2) := dk_16 245 (dk_at dksX1_weight_1 15 rfl rfl)
theorem dX1_weight_41 : decode cX1_weight 41 = .ok (.ireturn, 1) := dk_172 (dk_at dksX1_weight_1 17 rfl rfl)
theorem dX1_weight_42 : decode cX1_weight 42 = .ok (.astore 4, 2) := dk_58 4 (dk_at dksX1_weight_1 18 rfl rfl)
theorem dX1_weight_44 : decode cX1_weight 44 = .ok (.bipush (-12), 2) := dk_16 244 (dk_at dksX1_weight_1 20 rfl rfl)
theorem dX1_weight_46 : decode cX1_weight 46 = .ok (.ireturn, 1) := dk_172 (dk_at dksX1_weight_1 22 rfl rfl)
theorem dX1_weight_47 : decode cX1_weight 47 = .ok (.aload_n 0, 1) := dk_42 (dk_at dksX1_weight_1 23 rfl rfl)
theorem dX1_weight_48 : decode cX1_weight 48 = .ok (.getfield 29, 3) := dk_180 0 29 (dk_at dksX1_weight_2 0 rfl rfl)
theorem dX1_weight_51 : decode cX1_weight 51 = .ok (.iload_n 1, 1) := dk_27 (dk_at dksX1_weight_2 3 rfl rfl)
theorem dX1_weight_52 : decode cX1_weight 52 = .ok (.aaload, 1) := dk_50 (dk_at dksX1_weight_2 4 rfl rfl)
theorem dX1_weight_53 : decode cX1_weight 53 = .ok (.astore 4, 2) := dk_58 4 (dk_at dksX1_weight_2 5 rfl rfl)
theorem dX1_weight_55 : decode cX1_weight 55 = .ok (.aload_n 0, 1) := dk_42 (dk_at dksX1_weight_2 7 rfl rfl)
theorem dX1_weight_56 : decode cX1_weight 56 = .ok (.getfield 29, 3) := dk_180 0 29 (dk_at dksX1_weight_2 8 rfl rfl)
theorem dX1_weight_59 : decode cX1_weight 59 = .ok (.iload_n 1, 1) := dk_27 (dk_at dksX1_weight_2 11 rfl rfl)
theorem dX1_weight_60 : decode cX1_weight 60 = .ok (.aload_n 3, 1) := dk_45 (dk_at dksX1_weight_2 12 rfl rfl)
theorem dX1_weight_61 : decode cX1_weight 61 = .ok (.invokevirtual 131, 3) := dk_182 0 131 (dk_at dksX1_weight_2 13 rfl rfl)
theorem dX1_weight_64 : decode cX1_weight 64 = .ok (.aastore, 1) := dk_83 (dk_at dksX1_weight_2 16 rfl rfl)
theorem dX1_weight_65 : decode cX1_weight 65 = .ok (.aload_n 0, 1) := dk_42 (dk_at dksX1_weight_2 17 rfl rfl)
theorem dX1_weight_66 : decode cX1_weight 66 = .ok (.iload_n 1, 1) := dk_27 (dk_at dksX1_weight_2 18 rfl rfl)
theorem dX1_weight_67 : decode cX1_weight 67 = .ok (.invokevirtual 291, 3) := dk_182 1 35 (dk_at dksX1_weight_2 19 rfl rfl)
theorem dX1_weight_70 : decode cX1_weight 70 = .ok (.ifCond .ne 14, 3) := dk_154 0 14 (dk_at dksX1_weight_3 0 rfl rfl)
theorem dX1_weight_73 : decode cX1_weight 73 = .ok (.aload_n 0, 1) := dk_42 (dk_at dksX1_weight_3 3 rfl rfl)
theorem dX1_weight_74 : decode cX1_weight 74 = .ok (.getfield 29, 3) := dk_180 0 29 (dk_at dksX1_weight_3 4 rfl rfl)
theorem dX1_weight_77 : decode cX1_weight 77 = .ok (.iload_n 1, 1) := dk_27 (dk_at dksX1_weight_3 7 rfl rfl)
theorem dX1_weight_78 : decode cX1_weight 78 = .ok (.aload 4, 2) := dk_25 4 (dk_at dksX1_weight_3 8 rfl rfl)
theorem dX1_weight_80 : decode cX1_weight 80 = .ok (.aastore, 1) := dk_83 (dk_at dksX1_weight_3 10 rfl rfl)
theorem dX1_weight_81 : decode cX1_weight 81 = .ok (.bipush (-16), 2) := dk_16 240 (dk_at dksX1_weight_3 11 rfl rfl)
theorem dX1_weight_83 : decode cX1_weight 83 = .ok (.ireturn, 1) := dk_172 (dk_at dksX1_weight_3 13 rfl rfl)
theorem dX1_weight_84 : decode cX1_weight 84 = .ok (.iconst 1, 1) := dk_4 (dk_at dksX1_weight_3 14 rfl rfl)
theorem dX1_weight_85 : decode cX1_weight 85 = .ok (.ireturn, 1) := dk_172 (dk_at dksX1_weight_3 15 rfl rfl)
abbrev cX1_total : ByteArray := prog_1_method_48_code
def yX1_total : MethodName := ⟨RX1, "total", "(I)I"⟩
def dkwX1_total_2 : List UInt8 := [42, 27, 27, 4, 96, 182, 1, 27, 182, 0, 70, 172]
abbrev dktX1_total_2 : List UInt8 := dkwX1_total_2 ++ []
def dkwX1_total_1 : List UInt8 := [160, 0, 6, 16, 252, 172, 42, 27, 2, 160, 0, 15, 42, 3, 42, 180, 1, 21, 182, 1, 27, 167, 0, 11]
abbrev dktX1_total_1 : List UInt8 := dkwX1_total_1 ++ dktX1_total_2
def dkwX1_total_0 : List UInt8 := [27, 2, 159, 0, 14, 42, 27, 182, 1, 31, 154, 0, 6, 16, 254, 172, 42, 180, 0, 47, 16, 60]
abbrev dktX1_total_0 : List UInt8 := dkwX1_total_0 ++ dktX1_total_1
theorem dksX1_total_0 : cX1_total.data.toList.drop 0 = dktX1_total_0 := by decide +kernel
theorem dksX1_total_1 : cX1_total.data.toList.drop 22 = dktX1_total_1 := dk_seg dksX1_total_0 22 rfl rfl
theorem dksX1_total_2 : cX1_total.data.toList.drop 46 = dktX1_total_2 := dk_seg dksX1_total_1 24 rfl rfl
theorem dX1_total_0 : decode cX1_total 0 = .ok (.iload_n 1, 1) := dk_27 (dk_at dksX1_total_0 0 rfl rfl)
theorem dX1_total_1 : decode cX1_total 1 = .ok (.iconst (-1), 1) := dk_2 (dk_at dksX1_total_0 1 rfl rfl)
theorem dX1_total_2 : decode cX1_total 2 = .ok (.if_icmp .eq 14, 3) := dk_159 0 14 (dk_at dksX1_total_0 2 rfl rfl)
theorem dX1_total_5 : decode cX1_total 5 = .ok (.aload_n 0, 1) := dk_42 (dk_at dksX1_total_0 5 rfl rfl)
theorem dX1_total_6 : decode cX1_total 6 = .ok (.iload_n 1, 1) := dk_27 (dk_at dksX1_total_0 6 rfl rfl)
theorem dX1_total_7 : decode cX1_total 7 = .ok (.invokevirtual 287, 3) := dk_182 1 31 (dk_at dksX1_total_0 7 rfl rfl)
theorem dX1_total_10 : decode cX1_total 10 = .ok (.ifCond .ne 6, 3) := dk_154 0 6 (dk_at dksX1_total_0 10 rfl rfl)
theorem dX1_total_13 : decode cX1_total 13 = .ok (.bipush (-2), 2) := dk_16 254 (dk_at dksX1_total_0 13 rfl rfl)
theorem dX1_total_15 : decode cX1_total 15 = .ok (.ireturn, 1) := dk_172 (dk_at dksX1_total_0 15 rfl rfl)
theorem dX1_total_16 : decode cX1_total 16 = .ok (.aload_n 0, 1) := dk_42 (dk_at dksX1_total_0 16 rfl rfl)
theorem dX1_total_17 : decode cX1_total 17 = .ok (.getfield 47, 3) := dk_180 0 47 (dk_at dksX1_total_0 17 rfl rfl)
theorem dX1_total_20 : decode cX1_total 20 = .ok (.bipush 60, 2) := dk_16 60 (dk_at dksX1_total_0 20 rfl rfl)
theorem dX1_total_22 : decode cX1_total 22 = .ok (.if_icmp .ne 6, 3) := dk_160 0 6 (dk_at dksX1_total_1 0 rfl rfl)
theorem dX1_total_25 : decode cX1_total 25 = .ok (.bipush (-4), 2) := dk_16 252 (dk_at dksX1_total_1 3 rfl rfl)
theorem dX1_total_27 : decode cX1_total 27 = .ok (.ireturn, 1) := dk_172 (dk_at dksX1_total_1 5 rfl rfl)
theorem dX1_total_28 : decode cX1_total 28 = .ok (.aload_n 0, 1) := dk_42 (dk_at dksX1_total_1 6 rfl rfl)
theorem dX1_total_29 : decode cX1_total 29 = .ok (.iload_n 1, 1) := dk_27 (dk_at dksX1_total_1 7 rfl rfl)
theorem dX1_total_30 : decode cX1_total 30 = .ok (.iconst (-1), 1) := dk_2 (dk_at dksX1_total_1 8 rfl rfl)
theorem dX1_total_31 : decode cX1_total 31 = .ok (.if_icmp .ne 15, 3) := dk_160 0 15 (dk_at dksX1_total_1 9 rfl rfl)
theorem dX1_total_34 : decode cX1_total 34 = .ok (.aload_n 0, 1) := dk_42 (dk_at dksX1_total_1 12 rfl rfl)
theorem dX1_total_35 : decode cX1_total 35 = .ok (.iconst 0, 1) := dk_3 (dk_at dksX1_total_1 13 rfl rfl)
theorem dX1_total_36 : decode cX1_total 36 = .ok (.aload_n 0, 1) := dk_42 (dk_at dksX1_total_1 14 rfl rfl)
theorem dX1_total_37 : decode cX1_total 37 = .ok (.getfield 277, 3) := dk_180 1 21 (dk_at dksX1_total_1 15 rfl rfl)
theorem dX1_total_40 : decode cX1_total 40 = .ok (.invokevirtual 283, 3) := dk_182 1 27 (dk_at dksX1_total_1 18 rfl rfl)
theorem dX1_total_43 : decode cX1_total 43 = .ok (.goto 11, 3) := dk_167 0 11 (dk_at dksX1_total_1 21 rfl rfl)
theorem dX1_total_46 : decode cX1_total 46 = .ok (.aload_n 0, 1) := dk_42 (dk_at dksX1_total_2 0 rfl rfl)
theorem dX1_total_47 : decode cX1_total 47 = .ok (.iload_n 1, 1) := dk_27 (dk_at dksX1_total_2 1 rfl rfl)
theorem dX1_total_48 : decode cX1_total 48 = .ok (.iload_n 1, 1) := dk_27 (dk_at dksX1_total_2 2 rfl rfl)
theorem dX1_total_49 : decode cX1_total 49 = .ok (.iconst 1, 1) := dk_4 (dk_at dksX1_total_2 3 rfl rfl)
theorem dX1_total_50 : decode cX1_total 50 = .ok (.iadd, 1) := dk_96 (dk_at dksX1_total_2 4 rfl rfl)
theorem dX1_total_51 : decode cX1_total 51 = .ok (.invokevirtual 283, 3) := dk_182 1 27 (dk_at dksX1_total_2 5 rfl rfl)
theorem dX1_total_54 : decode cX1_total 54 = .ok (.invokevirtual 70, 3) := dk_182 0 70 (dk_at dksX1_total_2 8 rfl rfl)
theorem dX1_total_57 : decode cX1_total 57 = .ok (.ireturn, 1) := dk_172 (dk_at dksX1_total_2 11 rfl rfl)
abbrev cX1_safe : ByteArray := prog_1_method_49_code
def yX1_safe : MethodName := ⟨RX1, "safe", "(I)I"⟩
def dkwX1_safe_5 : List UInt8 := [167, 255, 154, 167, 0, 6, 77, 3, 172, 4, 172]
abbrev dktX1_safe_5 : List UInt8 := dkwX1_safe_5 ++ []
def dkwX1_safe_4 : List UInt8 := [182, 0, 167, 132, 4, 1, 167, 255, 198, 42, 182, 0, 171, 55, 4, 132, 3, 1, 167, 255, 174, 132, 2, 1]
abbrev dktX1_safe_4 : List UInt8 := dkwX1_safe_4 ++ dktX1_safe_5
def dkwX1_safe_3 : List UInt8 := [4, 167, 0, 4, 3, 29, 154, 0, 7, 4, 167, 0, 4, 3, 160, 0, 11, 42, 22, 5, 27, 133]
abbrev dktX1_safe_3 : List UInt8 := dkwX1_safe_3 ++ dktX1_safe_4
def dkwX1_safe_2 : List UInt8 := [162, 0, 55, 42, 180, 0, 29, 21, 4, 50, 180, 0, 80, 28, 47, 55, 5, 22, 5, 9, 148, 158, 0, 7]
abbrev dktX1_safe_2 : List UInt8 := dkwX1_safe_2 ++ dktX1_safe_3
def dkwX1_safe_1 : List UInt8 := [190, 162, 0, 96, 3, 62, 29, 5, 162, 0, 83, 42, 182, 0, 164, 3, 54, 4, 21, 4, 42, 180, 1, 21]
abbrev dktX1_safe_1 : List UInt8 := dkwX1_safe_1 ++ dktX1_safe_2
def dkwX1_safe_0 : List UInt8 := [27, 3, 19, 1, 34, 184, 0, 51, 154, 0, 6, 16, 253, 172, 3, 61, 28, 42, 180, 0, 25, 180, 0, 80]
abbrev dktX1_safe_0 : List UInt8 := dkwX1_safe_0 ++ dktX1_safe_1
theorem dksX1_safe_0 : cX1_safe.data.toList.drop 0 = dktX1_safe_0 := by decide +kernel
theorem dksX1_safe_1 : cX1_safe.data.toList.drop 24 = dktX1_safe_1 := dk_seg dksX1_safe_0 24 rfl rfl
theorem dksX1_safe_2 : cX1_safe.data.toList.drop 48 = dktX1_safe_2 := dk_seg dksX1_safe_1 24 rfl rfl
theorem dksX1_safe_3 : cX1_safe.data.toList.drop 72 = dktX1_safe_3 := dk_seg dksX1_safe_2 24 rfl rfl
theorem dksX1_safe_4 : cX1_safe.data.toList.drop 94 = dktX1_safe_4 := dk_seg dksX1_safe_3 22 rfl rfl
theorem dksX1_safe_5 : cX1_safe.data.toList.drop 118 = dktX1_safe_5 := dk_seg dksX1_safe_4 24 rfl rfl
theorem dX1_safe_0 : decode cX1_safe 0 = .ok (.iload_n 1, 1) := dk_27 (dk_at dksX1_safe_0 0 rfl rfl)
theorem dX1_safe_1 : decode cX1_safe 1 = .ok (.iconst 0, 1) := dk_3 (dk_at dksX1_safe_0 1 rfl rfl)
theorem dX1_safe_2 : decode cX1_safe 2 = .ok (.ldc_w 290, 3) := dk_19 1 34 (dk_at dksX1_safe_0 2 rfl rfl)
theorem dX1_safe_5 : decode cX1_safe 5 = .ok (.invokestatic 51, 3) := dk_184 0 51 (dk_at dksX1_safe_0 5 rfl rfl)
theorem dX1_safe_8 : decode cX1_safe 8 = .ok (.ifCond .ne 6, 3) := dk_154 0 6 (dk_at dksX1_safe_0 8 rfl rfl)
theorem dX1_safe_11 : decode cX1_safe 11 = .ok (.bipush (-3), 2) := dk_16 253 (dk_at dksX1_safe_0 11 rfl rfl)
theorem dX1_safe_13 : decode cX1_safe 13 = .ok (.ireturn, 1) := dk_172 (dk_at dksX1_safe_0 13 rfl rfl)
theorem dX1_safe_14 : decode cX1_safe 14 = .ok (.iconst 0, 1) := dk_3 (dk_at dksX1_safe_0 14 rfl rfl)
theorem dX1_safe_15 : decode cX1_safe 15 = .ok (.istore_n 2, 1) := dk_61 (dk_at dksX1_safe_0 15 rfl rfl)
theorem dX1_safe_16 : decode cX1_safe 16 = .ok (.iload_n 2, 1) := dk_28 (dk_at dksX1_safe_0 16 rfl rfl)
theorem dX1_safe_17 : decode cX1_safe 17 = .ok (.aload_n 0, 1) := dk_42 (dk_at dksX1_safe_0 17 rfl rfl)
theorem dX1_safe_18 : decode cX1_safe 18 = .ok (.getfield 25, 3) := dk_180 0 25 (dk_at dksX1_safe_0 18 rfl rfl)
theorem dX1_safe_21 : decode cX1_safe 21 = .ok (.getfield 80, 3) := dk_180 0 80 (dk_at dksX1_safe_0 21 rfl rfl)
theorem dX1_safe_24 : decode cX1_safe 24 = .ok (.arraylength, 1) := dk_190 (dk_at dksX1_safe_1 0 rfl rfl)
theorem dX1_safe_25 : decode cX1_safe 25 = .ok (.if_icmp .ge 96, 3) := dk_162 0 96 (dk_at dksX1_safe_1 1 rfl rfl)
theorem dX1_safe_28 : decode cX1_safe 28 = .ok (.iconst 0, 1) := dk_3 (dk_at dksX1_safe_1 4 rfl rfl)
theorem dX1_safe_29 : decode cX1_safe 29 = .ok (.istore_n 3, 1) := dk_62 (dk_at dksX1_safe_1 5 rfl rfl)
theorem dX1_safe_30 : decode cX1_safe 30 = .ok (.iload_n 3, 1) := dk_29 (dk_at dksX1_safe_1 6 rfl rfl)
theorem dX1_safe_31 : decode cX1_safe 31 = .ok (.iconst 2, 1) := dk_5 (dk_at dksX1_safe_1 7 rfl rfl)
theorem dX1_safe_32 : decode cX1_safe 32 = .ok (.if_icmp .ge 83, 3) := dk_162 0 83 (dk_at dksX1_safe_1 8 rfl rfl)
theorem dX1_safe_35 : decode cX1_safe 35 = .ok (.aload_n 0, 1) := dk_42 (dk_at dksX1_safe_1 11 rfl rfl)
theorem dX1_safe_36 : decode cX1_safe 36 = .ok (.invokevirtual 164, 3) := dk_182 0 164 (dk_at dksX1_safe_1 12 rfl rfl)
theorem dX1_safe_39 : decode cX1_safe 39 = .ok (.iconst 0, 1) := dk_3 (dk_at dksX1_safe_1 15 rfl rfl)
theorem dX1_safe_40 : decode cX1_safe 40 = .ok (.istore 4, 2) := dk_54 4 (dk_at dksX1_safe_1 16 rfl rfl)
theorem dX1_safe_42 : decode cX1_safe 42 = .ok (.iload 4, 2) := dk_21 4 (dk_at dksX1_safe_1 18 rfl rfl)
theorem dX1_safe_44 : decode cX1_safe 44 = .ok (.aload_n 0, 1) := dk_42 (dk_at dksX1_safe_1 20 rfl rfl)
theorem dX1_safe_45 : decode cX1_safe 45 = .ok (.getfield 277, 3) := dk_180 1 21 (dk_at dksX1_safe_1 21 rfl rfl)
theorem dX1_safe_48 : decode cX1_safe 48 = .ok (.if_icmp .ge 55, 3) := dk_162 0 55 (dk_at dksX1_safe_2 0 rfl rfl)
theorem dX1_safe_51 : decode cX1_safe 51 = .ok (.aload_n 0, 1) := dk_42 (dk_at dksX1_safe_2 3 rfl rfl)
theorem dX1_safe_52 : decode cX1_safe 52 = .ok (.getfield 29, 3) := dk_180 0 29 (dk_at dksX1_safe_2 4 rfl rfl)
theorem dX1_safe_55 : decode cX1_safe 55 = .ok (.iload 4, 2) := dk_21 4 (dk_at dksX1_safe_2 7 rfl rfl)
theorem dX1_safe_57 : decode cX1_safe 57 = .ok (.aaload, 1) := dk_50 (dk_at dksX1_safe_2 9 rfl rfl)
theorem dX1_safe_58 : decode cX1_safe 58 = .ok (.getfield 80, 3) := dk_180 0 80 (dk_at dksX1_safe_2 10 rfl rfl)
theorem dX1_safe_61 : decode cX1_safe 61 = .ok (.iload_n 2, 1) := dk_28 (dk_at dksX1_safe_2 13 rfl rfl)
theorem dX1_safe_62 : decode cX1_safe 62 = .ok (.laload, 1) := dk_47 (dk_at dksX1_safe_2 14 rfl rfl)
theorem dX1_safe_63 : decode cX1_safe 63 = .ok (.lstore 5, 2) := dk_55 5 (dk_at dksX1_safe_2 15 rfl rfl)
theorem dX1_safe_65 : decode cX1_safe 65 = .ok (.lload 5, 2) := dk_22 5 (dk_at dksX1_safe_2 17 rfl rfl)
theorem dX1_safe_67 : decode cX1_safe 67 = .ok (.lconst 0, 1) := dk_9 (dk_at dksX1_safe_2 19 rfl rfl)
theorem dX1_safe_68 : decode cX1_safe 68 = .ok (.lcmp, 1) := dk_148 (dk_at dksX1_safe_2 20 rfl rfl)
theorem dX1_safe_69 : decode cX1_safe 69 = .ok (.ifCond .le 7, 3) := dk_158 0 7 (dk_at dksX1_safe_2 21 rfl rfl)
theorem dX1_safe_72 : decode cX1_safe 72 = .ok (.iconst 1, 1) := dk_4 (dk_at dksX1_safe_3 0 rfl rfl)
theorem dX1_safe_73 : decode cX1_safe 73 = .ok (.goto 4, 3) := dk_167 0 4 (dk_at dksX1_safe_3 1 rfl rfl)
theorem dX1_safe_76 : decode cX1_safe 76 = .ok (.iconst 0, 1) := dk_3 (dk_at dksX1_safe_3 4 rfl rfl)
theorem dX1_safe_77 : decode cX1_safe 77 = .ok (.iload_n 3, 1) := dk_29 (dk_at dksX1_safe_3 5 rfl rfl)
theorem dX1_safe_78 : decode cX1_safe 78 = .ok (.ifCond .ne 7, 3) := dk_154 0 7 (dk_at dksX1_safe_3 6 rfl rfl)
theorem dX1_safe_81 : decode cX1_safe 81 = .ok (.iconst 1, 1) := dk_4 (dk_at dksX1_safe_3 9 rfl rfl)
theorem dX1_safe_82 : decode cX1_safe 82 = .ok (.goto 4, 3) := dk_167 0 4 (dk_at dksX1_safe_3 10 rfl rfl)
theorem dX1_safe_85 : decode cX1_safe 85 = .ok (.iconst 0, 1) := dk_3 (dk_at dksX1_safe_3 13 rfl rfl)
theorem dX1_safe_86 : decode cX1_safe 86 = .ok (.if_icmp .ne 11, 3) := dk_160 0 11 (dk_at dksX1_safe_3 14 rfl rfl)
theorem dX1_safe_89 : decode cX1_safe 89 = .ok (.aload_n 0, 1) := dk_42 (dk_at dksX1_safe_3 17 rfl rfl)
theorem dX1_safe_90 : decode cX1_safe 90 = .ok (.lload 5, 2) := dk_22 5 (dk_at dksX1_safe_3 18 rfl rfl)
theorem dX1_safe_92 : decode cX1_safe 92 = .ok (.iload_n 1, 1) := dk_27 (dk_at dksX1_safe_3 20 rfl rfl)
theorem dX1_safe_93 : decode cX1_safe 93 = .ok (.i2l, 1) := dk_133 (dk_at dksX1_safe_3 21 rfl rfl)
theorem dX1_safe_94 : decode cX1_safe 94 = .ok (.invokevirtual 167, 3) := dk_182 0 167 (dk_at dksX1_safe_4 0 rfl rfl)
theorem dX1_safe_97 : decode cX1_safe 97 = .ok (.iinc 4 1, 3) := dk_132 4 1 (dk_at dksX1_safe_4 3 rfl rfl)
theorem dX1_safe_100 : decode cX1_safe 100 = .ok (.goto (-58), 3) := dk_167 255 198 (dk_at dksX1_safe_4 6 rfl rfl)
theorem dX1_safe_103 : decode cX1_safe 103 = .ok (.aload_n 0, 1) := dk_42 (dk_at dksX1_safe_4 9 rfl rfl)
theorem dX1_safe_104 : decode cX1_safe 104 = .ok (.invokevirtual 171, 3) := dk_182 0 171 (dk_at dksX1_safe_4 10 rfl rfl)
theorem dX1_safe_107 : decode cX1_safe 107 = .ok (.lstore 4, 2) := dk_55 4 (dk_at dksX1_safe_4 13 rfl rfl)
theorem dX1_safe_109 : decode cX1_safe 109 = .ok (.iinc 3 1, 3) := dk_132 3 1 (dk_at dksX1_safe_4 15 rfl rfl)
theorem dX1_safe_112 : decode cX1_safe 112 = .ok (.goto (-82), 3) := dk_167 255 174 (dk_at dksX1_safe_4 18 rfl rfl)
theorem dX1_safe_115 : decode cX1_safe 115 = .ok (.iinc 2 1, 3) := dk_132 2 1 (dk_at dksX1_safe_4 21 rfl rfl)
theorem dX1_safe_118 : decode cX1_safe 118 = .ok (.goto (-102), 3) := dk_167 255 154 (dk_at dksX1_safe_5 0 rfl rfl)
theorem dX1_safe_121 : decode cX1_safe 121 = .ok (.goto 6, 3) := dk_167 0 6 (dk_at dksX1_safe_5 3 rfl rfl)
theorem dX1_safe_124 : decode cX1_safe 124 = .ok (.astore_n 2, 1) := dk_77 (dk_at dksX1_safe_5 6 rfl rfl)
theorem dX1_safe_125 : decode cX1_safe 125 = .ok (.iconst 0, 1) := dk_3 (dk_at dksX1_safe_5 7 rfl rfl)
theorem dX1_safe_126 : decode cX1_safe 126 = .ok (.ireturn, 1) := dk_172 (dk_at dksX1_safe_5 8 rfl rfl)
theorem dX1_safe_127 : decode cX1_safe 127 = .ok (.iconst 1, 1) := dk_4 (dk_at dksX1_safe_5 9 rfl rfl)
theorem dX1_safe_128 : decode cX1_safe 128 = .ok (.ireturn, 1) := dk_172 (dk_at dksX1_safe_5 10 rfl rfl)
abbrev cX1_keep : ByteArray := prog_1_method_50_code
def yX1_keep : MethodName := ⟨RX1, "keep", "(I)I"⟩
def dkwX1_keep_5 : List UInt8 := [180, 0, 36, 29, 44, 182, 0, 131, 83, 29, 172]
abbrev dktX1_keep_5 : List UInt8 := dkwX1_keep_5 ++ []
def dkwX1_keep_4 : List UInt8 := [42, 180, 0, 36, 29, 42, 180, 0, 36, 29, 4, 96, 42, 180, 1, 24, 4, 100, 29, 100, 184, 0, 245, 42]
abbrev dktX1_keep_4 : List UInt8 := dkwX1_keep_4 ++ dktX1_keep_5
def dkwX1_keep_3 : List UInt8 := [2, 172, 42, 89, 180, 1, 24, 42, 180, 1, 24, 8, 162, 0, 7, 4, 167, 0, 4, 3, 96, 181, 1, 24]
abbrev dktX1_keep_3 : List UInt8 := dkwX1_keep_3 ++ dktX1_keep_4
def dkwX1_keep_2 : List UInt8 := [42, 180, 0, 36, 29, 50, 44, 182, 0, 128, 154, 0, 9, 132, 3, 1, 167, 255, 232, 29, 8, 160, 0, 5]
abbrev dktX1_keep_2 : List UInt8 := dkwX1_keep_2 ++ dktX1_keep_3
def dkwX1_keep_1 : List UInt8 := [184, 0, 124, 167, 0, 11, 78, 16, 245, 172, 78, 16, 244, 172, 3, 62, 29, 42, 180, 1, 24, 162, 0, 22]
abbrev dktX1_keep_1 : List UInt8 := dkwX1_keep_1 ++ dktX1_keep_2
def dkwX1_keep_0 : List UInt8 := [42, 27, 182, 0, 76, 154, 0, 6, 16, 254, 172, 42, 180, 0, 11, 27, 50, 77, 44, 42, 180, 0, 25]
abbrev dktX1_keep_0 : List UInt8 := dkwX1_keep_0 ++ dktX1_keep_1
theorem dksX1_keep_0 : cX1_keep.data.toList.drop 0 = dktX1_keep_0 := by decide +kernel
theorem dksX1_keep_1 : cX1_keep.data.toList.drop 23 = dktX1_keep_1 := dk_seg dksX1_keep_0 23 rfl rfl
theorem dksX1_keep_2 : cX1_keep.data.toList.drop 47 = dktX1_keep_2 := dk_seg dksX1_keep_1 24 rfl rfl
theorem dksX1_keep_3 : cX1_keep.data.toList.drop 71 = dktX1_keep_3 := dk_seg dksX1_keep_2 24 rfl rfl
theorem dksX1_keep_4 : cX1_keep.data.toList.drop 95 = dktX1_keep_4 := dk_seg dksX1_keep_3 24 rfl rfl
theorem dksX1_keep_5 : cX1_keep.data.toList.drop 119 = dktX1_keep_5 := dk_seg dksX1_keep_4 24 rfl rfl
theorem dX1_keep_0 : decode cX1_keep 0 = .ok (.aload_n 0, 1) := dk_42 (dk_at dksX1_keep_0 0 rfl rfl)
theorem dX1_keep_1 : decode cX1_keep 1 = .ok (.iload_n 1, 1) := dk_27 (dk_at dksX1_keep_0 1 rfl rfl)
theorem dX1_keep_2 : decode cX1_keep 2 = .ok (.invokevirtual 76, 3) := dk_182 0 76 (dk_at dksX1_keep_0 2 rfl rfl)
theorem dX1_keep_5 : decode cX1_keep 5 = .ok (.ifCond .ne 6, 3) := dk_154 0 6 (dk_at dksX1_keep_0 5 rfl rfl)
theorem dX1_keep_8 : decode cX1_keep 8 = .ok (.bipush (-2), 2) := dk_16 254 (dk_at dksX1_keep_0 8 rfl rfl)
theorem dX1_keep_10 : decode cX1_keep 10 = .ok (.ireturn, 1) := dk_172 (dk_at dksX1_keep_0 10 rfl rfl)
theorem dX1_keep_11 : decode cX1_keep 11 = .ok (.aload_n 0, 1) := dk_42 (dk_at dksX1_keep_0 11 rfl rfl)
theorem dX1_keep_12 : decode cX1_keep 12 = .ok (.getfield 11, 3) := dk_180 0 11 (dk_at dksX1_keep_0 12 rfl rfl)
theorem dX1_keep_15 : decode cX1_keep 15 = .ok (.iload_n 1, 1) := dk_27 (dk_at dksX1_keep_0 15 rfl rfl)
theorem dX1_keep_16 : decode cX1_keep 16 = .ok (.aaload, 1) := dk_50 (dk_at dksX1_keep_0 16 rfl rfl)
theorem dX1_keep_17 : decode cX1_keep 17 = .ok (.astore_n 2, 1) := dk_77 (dk_at dksX1_keep_0 17 rfl rfl)
theorem dX1_keep_18 : decode cX1_keep 18 = .ok (.aload_n 2, 1) := dk_44 (dk_at dksX1_keep_0 18 rfl rfl)
theorem dX1_keep_19 : decode cX1_keep 19 = .ok (.aload_n 0, 1) := dk_42 (dk_at dksX1_keep_0 19 rfl rfl)
theorem dX1_keep_20 : decode cX1_keep 20 = .ok (.getfield 25, 3) := dk_180 0 25 (dk_at dksX1_keep_0 20 rfl rfl)
theorem dX1_keep_23 : decode cX1_keep 23 = .ok (.invokestatic 124, 3) := dk_184 0 124 (dk_at dksX1_keep_1 0 rfl rfl)
theorem dX1_keep_26 : decode cX1_keep 26 = .ok (.goto 11, 3) := dk_167 0 11 (dk_at dksX1_keep_1 3 rfl rfl)
theorem dX1_keep_29 : decode cX1_keep 29 = .ok (.astore_n 3, 1) := dk_78 (dk_at dksX1_keep_1 6 rfl rfl)
theorem dX1_keep_30 : decode cX1_keep 30 = .ok (.bipush (-11), 2) := dk_16 245 (dk_at dksX1_keep_1 7 rfl rfl)
theorem dX1_keep_32 : decode cX1_keep 32 = .ok (.ireturn, 1) := dk_172 (dk_at dksX1_keep_1 9 rfl rfl)
theorem dX1_keep_33 : decode cX1_keep 33 = .ok (.astore_n 3, 1) := dk_78 (dk_at dksX1_keep_1 10 rfl rfl)
theorem dX1_keep_34 : decode cX1_keep 34 = .ok (.bipush (-12), 2) := dk_16 244 (dk_at dksX1_keep_1 11 rfl rfl)
theorem dX1_keep_36 : decode cX1_keep 36 = .ok (.ireturn, 1) := dk_172 (dk_at dksX1_keep_1 13 rfl rfl)
theorem dX1_keep_37 : decode cX1_keep 37 = .ok (.iconst 0, 1) := dk_3 (dk_at dksX1_keep_1 14 rfl rfl)
theorem dX1_keep_38 : decode cX1_keep 38 = .ok (.istore_n 3, 1) := dk_62 (dk_at dksX1_keep_1 15 rfl rfl)
theorem dX1_keep_39 : decode cX1_keep 39 = .ok (.iload_n 3, 1) := dk_29 (dk_at dksX1_keep_1 16 rfl rfl)
theorem dX1_keep_40 : decode cX1_keep 40 = .ok (.aload_n 0, 1) := dk_42 (dk_at dksX1_keep_1 17 rfl rfl)
theorem dX1_keep_41 : decode cX1_keep 41 = .ok (.getfield 280, 3) := dk_180 1 24 (dk_at dksX1_keep_1 18 rfl rfl)
theorem dX1_keep_44 : decode cX1_keep 44 = .ok (.if_icmp .ge 22, 3) := dk_162 0 22 (dk_at dksX1_keep_1 21 rfl rfl)
theorem dX1_keep_47 : decode cX1_keep 47 = .ok (.aload_n 0, 1) := dk_42 (dk_at dksX1_keep_2 0 rfl rfl)
theorem dX1_keep_48 : decode cX1_keep 48 = .ok (.getfield 36, 3) := dk_180 0 36 (dk_at dksX1_keep_2 1 rfl rfl)
theorem dX1_keep_51 : decode cX1_keep 51 = .ok (.iload_n 3, 1) := dk_29 (dk_at dksX1_keep_2 4 rfl rfl)
theorem dX1_keep_52 : decode cX1_keep 52 = .ok (.aaload, 1) := dk_50 (dk_at dksX1_keep_2 5 rfl rfl)
theorem dX1_keep_53 : decode cX1_keep 53 = .ok (.aload_n 2, 1) := dk_44 (dk_at dksX1_keep_2 6 rfl rfl)
theorem dX1_keep_54 : decode cX1_keep 54 = .ok (.invokevirtual 128, 3) := dk_182 0 128 (dk_at dksX1_keep_2 7 rfl rfl)
theorem dX1_keep_57 : decode cX1_keep 57 = .ok (.ifCond .ne 9, 3) := dk_154 0 9 (dk_at dksX1_keep_2 10 rfl rfl)
theorem dX1_keep_60 : decode cX1_keep 60 = .ok (.iinc 3 1, 3) := dk_132 3 1 (dk_at dksX1_keep_2 13 rfl rfl)
theorem dX1_keep_63 : decode cX1_keep 63 = .ok (.goto (-24), 3) := dk_167 255 232 (dk_at dksX1_keep_2 16 rfl rfl)
theorem dX1_keep_66 : decode cX1_keep 66 = .ok (.iload_n 3, 1) := dk_29 (dk_at dksX1_keep_2 19 rfl rfl)
theorem dX1_keep_67 : decode cX1_keep 67 = .ok (.iconst 5, 1) := dk_8 (dk_at dksX1_keep_2 20 rfl rfl)
theorem dX1_keep_68 : decode cX1_keep 68 = .ok (.if_icmp .ne 5, 3) := dk_160 0 5 (dk_at dksX1_keep_2 21 rfl rfl)
theorem dX1_keep_71 : decode cX1_keep 71 = .ok (.iconst (-1), 1) := dk_2 (dk_at dksX1_keep_3 0 rfl rfl)
theorem dX1_keep_72 : decode cX1_keep 72 = .ok (.ireturn, 1) := dk_172 (dk_at dksX1_keep_3 1 rfl rfl)
theorem dX1_keep_73 : decode cX1_keep 73 = .ok (.aload_n 0, 1) := dk_42 (dk_at dksX1_keep_3 2 rfl rfl)
theorem dX1_keep_74 : decode cX1_keep 74 = .ok (.dup, 1) := dk_89 (dk_at dksX1_keep_3 3 rfl rfl)
theorem dX1_keep_75 : decode cX1_keep 75 = .ok (.getfield 280, 3) := dk_180 1 24 (dk_at dksX1_keep_3 4 rfl rfl)
theorem dX1_keep_78 : decode cX1_keep 78 = .ok (.aload_n 0, 1) := dk_42 (dk_at dksX1_keep_3 7 rfl rfl)
theorem dX1_keep_79 : decode cX1_keep 79 = .ok (.getfield 280, 3) := dk_180 1 24 (dk_at dksX1_keep_3 8 rfl rfl)
theorem dX1_keep_82 : decode cX1_keep 82 = .ok (.iconst 5, 1) := dk_8 (dk_at dksX1_keep_3 11 rfl rfl)
theorem dX1_keep_83 : decode cX1_keep 83 = .ok (.if_icmp .ge 7, 3) := dk_162 0 7 (dk_at dksX1_keep_3 12 rfl rfl)
theorem dX1_keep_86 : decode cX1_keep 86 = .ok (.iconst 1, 1) := dk_4 (dk_at dksX1_keep_3 15 rfl rfl)
theorem dX1_keep_87 : decode cX1_keep 87 = .ok (.goto 4, 3) := dk_167 0 4 (dk_at dksX1_keep_3 16 rfl rfl)
theorem dX1_keep_90 : decode cX1_keep 90 = .ok (.iconst 0, 1) := dk_3 (dk_at dksX1_keep_3 19 rfl rfl)
theorem dX1_keep_91 : decode cX1_keep 91 = .ok (.iadd, 1) := dk_96 (dk_at dksX1_keep_3 20 rfl rfl)
theorem dX1_keep_92 : decode cX1_keep 92 = .ok (.putfield 280, 3) := dk_181 1 24 (dk_at dksX1_keep_3 21 rfl rfl)
theorem dX1_keep_95 : decode cX1_keep 95 = .ok (.aload_n 0, 1) := dk_42 (dk_at dksX1_keep_4 0 rfl rfl)
theorem dX1_keep_96 : decode cX1_keep 96 = .ok (.getfield 36, 3) := dk_180 0 36 (dk_at dksX1_keep_4 1 rfl rfl)
theorem dX1_keep_99 : decode cX1_keep 99 = .ok (.iload_n 3, 1) := dk_29 (dk_at dksX1_keep_4 4 rfl rfl)
theorem dX1_keep_100 : decode cX1_keep 100 = .ok (.aload_n 0, 1) := dk_42 (dk_at dksX1_keep_4 5 rfl rfl)
theorem dX1_keep_101 : decode cX1_keep 101 = .ok (.getfield 36, 3) := dk_180 0 36 (dk_at dksX1_keep_4 6 rfl rfl)
theorem dX1_keep_104 : decode cX1_keep 104 = .ok (.iload_n 3, 1) := dk_29 (dk_at dksX1_keep_4 9 rfl rfl)
theorem dX1_keep_105 : decode cX1_keep 105 = .ok (.iconst 1, 1) := dk_4 (dk_at dksX1_keep_4 10 rfl rfl)
theorem dX1_keep_106 : decode cX1_keep 106 = .ok (.iadd, 1) := dk_96 (dk_at dksX1_keep_4 11 rfl rfl)
theorem dX1_keep_107 : decode cX1_keep 107 = .ok (.aload_n 0, 1) := dk_42 (dk_at dksX1_keep_4 12 rfl rfl)
theorem dX1_keep_108 : decode cX1_keep 108 = .ok (.getfield 280, 3) := dk_180 1 24 (dk_at dksX1_keep_4 13 rfl rfl)
theorem dX1_keep_111 : decode cX1_keep 111 = .ok (.iconst 1, 1) := dk_4 (dk_at dksX1_keep_4 16 rfl rfl)
theorem dX1_keep_112 : decode cX1_keep 112 = .ok (.isub, 1) := dk_100 (dk_at dksX1_keep_4 17 rfl rfl)
theorem dX1_keep_113 : decode cX1_keep 113 = .ok (.iload_n 3, 1) := dk_29 (dk_at dksX1_keep_4 18 rfl rfl)
theorem dX1_keep_114 : decode cX1_keep 114 = .ok (.isub, 1) := dk_100 (dk_at dksX1_keep_4 19 rfl rfl)
theorem dX1_keep_115 : decode cX1_keep 115 = .ok (.invokestatic 245, 3) := dk_184 0 245 (dk_at dksX1_keep_4 20 rfl rfl)
theorem dX1_keep_118 : decode cX1_keep 118 = .ok (.aload_n 0, 1) := dk_42 (dk_at dksX1_keep_4 23 rfl rfl)
theorem dX1_keep_119 : decode cX1_keep 119 = .ok (.getfield 36, 3) := dk_180 0 36 (dk_at dksX1_keep_5 0 rfl rfl)
theorem dX1_keep_122 : decode cX1_keep 122 = .ok (.iload_n 3, 1) := dk_29 (dk_at dksX1_keep_5 3 rfl rfl)
theorem dX1_keep_123 : decode cX1_keep 123 = .ok (.aload_n 2, 1) := dk_44 (dk_at dksX1_keep_5 4 rfl rfl)
theorem dX1_keep_124 : decode cX1_keep 124 = .ok (.invokevirtual 131, 3) := dk_182 0 131 (dk_at dksX1_keep_5 5 rfl rfl)
theorem dX1_keep_127 : decode cX1_keep 127 = .ok (.aastore, 1) := dk_83 (dk_at dksX1_keep_5 8 rfl rfl)
theorem dX1_keep_128 : decode cX1_keep 128 = .ok (.iload_n 3, 1) := dk_29 (dk_at dksX1_keep_5 9 rfl rfl)
theorem dX1_keep_129 : decode cX1_keep 129 = .ok (.ireturn, 1) := dk_172 (dk_at dksX1_keep_5 10 rfl rfl)
abbrev cX1_kept : ByteArray := prog_1_method_51_code
def yX1_kept : MethodName := ⟨RX1, "kept", "(I)I"⟩
def dkwX1_kept_1 : List UInt8 := [160, 0, 8, 16, 252, 167, 0, 16, 42, 42, 180, 0, 36, 27, 50, 182, 0, 131, 182, 0, 70, 172]
abbrev dktX1_kept_1 : List UInt8 := dkwX1_kept_1 ++ []
def dkwX1_kept_0 : List UInt8 := [27, 3, 42, 180, 1, 24, 4, 100, 184, 0, 51, 154, 0, 6, 16, 254, 172, 42, 180, 0, 47, 16, 60]
abbrev dktX1_kept_0 : List UInt8 := dkwX1_kept_0 ++ dktX1_kept_1
theorem dksX1_kept_0 : cX1_kept.data.toList.drop 0 = dktX1_kept_0 := by decide +kernel
theorem dksX1_kept_1 : cX1_kept.data.toList.drop 23 = dktX1_kept_1 := dk_seg dksX1_kept_0 23 rfl rfl
theorem dX1_kept_0 : decode cX1_kept 0 = .ok (.iload_n 1, 1) := dk_27 (dk_at dksX1_kept_0 0 rfl rfl)
theorem dX1_kept_1 : decode cX1_kept 1 = .ok (.iconst 0, 1) := dk_3 (dk_at dksX1_kept_0 1 rfl rfl)
theorem dX1_kept_2 : decode cX1_kept 2 = .ok (.aload_n 0, 1) := dk_42 (dk_at dksX1_kept_0 2 rfl rfl)
theorem dX1_kept_3 : decode cX1_kept 3 = .ok (.getfield 280, 3) := dk_180 1 24 (dk_at dksX1_kept_0 3 rfl rfl)
theorem dX1_kept_6 : decode cX1_kept 6 = .ok (.iconst 1, 1) := dk_4 (dk_at dksX1_kept_0 6 rfl rfl)
theorem dX1_kept_7 : decode cX1_kept 7 = .ok (.isub, 1) := dk_100 (dk_at dksX1_kept_0 7 rfl rfl)
theorem dX1_kept_8 : decode cX1_kept 8 = .ok (.invokestatic 51, 3) := dk_184 0 51 (dk_at dksX1_kept_0 8 rfl rfl)
theorem dX1_kept_11 : decode cX1_kept 11 = .ok (.ifCond .ne 6, 3) := dk_154 0 6 (dk_at dksX1_kept_0 11 rfl rfl)
theorem dX1_kept_14 : decode cX1_kept 14 = .ok (.bipush (-2), 2) := dk_16 254 (dk_at dksX1_kept_0 14 rfl rfl)
theorem dX1_kept_16 : decode cX1_kept 16 = .ok (.ireturn, 1) := dk_172 (dk_at dksX1_kept_0 16 rfl rfl)
theorem dX1_kept_17 : decode cX1_kept 17 = .ok (.aload_n 0, 1) := dk_42 (dk_at dksX1_kept_0 17 rfl rfl)
theorem dX1_kept_18 : decode cX1_kept 18 = .ok (.getfield 47, 3) := dk_180 0 47 (dk_at dksX1_kept_0 18 rfl rfl)
theorem dX1_kept_21 : decode cX1_kept 21 = .ok (.bipush 60, 2) := dk_16 60 (dk_at dksX1_kept_0 21 rfl rfl)
theorem dX1_kept_23 : decode cX1_kept 23 = .ok (.if_icmp .ne 8, 3) := dk_160 0 8 (dk_at dksX1_kept_1 0 rfl rfl)
theorem dX1_kept_26 : decode cX1_kept 26 = .ok (.bipush (-4), 2) := dk_16 252 (dk_at dksX1_kept_1 3 rfl rfl)
theorem dX1_kept_28 : decode cX1_kept 28 = .ok (.goto 16, 3) := dk_167 0 16 (dk_at dksX1_kept_1 5 rfl rfl)
theorem dX1_kept_31 : decode cX1_kept 31 = .ok (.aload_n 0, 1) := dk_42 (dk_at dksX1_kept_1 8 rfl rfl)
theorem dX1_kept_32 : decode cX1_kept 32 = .ok (.aload_n 0, 1) := dk_42 (dk_at dksX1_kept_1 9 rfl rfl)
theorem dX1_kept_33 : decode cX1_kept 33 = .ok (.getfield 36, 3) := dk_180 0 36 (dk_at dksX1_kept_1 10 rfl rfl)
theorem dX1_kept_36 : decode cX1_kept 36 = .ok (.iload_n 1, 1) := dk_27 (dk_at dksX1_kept_1 13 rfl rfl)
theorem dX1_kept_37 : decode cX1_kept 37 = .ok (.aaload, 1) := dk_50 (dk_at dksX1_kept_1 14 rfl rfl)
theorem dX1_kept_38 : decode cX1_kept 38 = .ok (.invokevirtual 131, 3) := dk_182 0 131 (dk_at dksX1_kept_1 15 rfl rfl)
theorem dX1_kept_41 : decode cX1_kept 41 = .ok (.invokevirtual 70, 3) := dk_182 0 70 (dk_at dksX1_kept_1 18 rfl rfl)
theorem dX1_kept_44 : decode cX1_kept 44 = .ok (.ireturn, 1) := dk_172 (dk_at dksX1_kept_1 21 rfl rfl)
abbrev cX1_many : ByteArray := prog_1_method_52_code
def yX1_many : MethodName := ⟨RX1, "many", "(I)I"⟩
def dkwX1_many_3 : List UInt8 := [172, 16, 253, 172]
abbrev dktX1_many_3 : List UInt8 := dkwX1_many_3 ++ []
def dkwX1_many_2 : List UInt8 := [42, 180, 0, 47, 172, 42, 180, 1, 21, 172, 42, 180, 1, 24, 172, 42, 180, 0, 185, 172, 42, 180, 0, 251]
abbrev dktX1_many_2 : List UInt8 := dkwX1_many_2 ++ dktX1_many_3
def dkwX1_many_1 : List UInt8 := [170, 0, 0, 0, 0, 0, 60, 0, 0, 0, 0, 0, 0, 0, 4, 0, 0, 0, 35, 0, 0, 0, 40, 0, 0, 0, 45, 0, 0, 0, 50, 0, 0, 0, 55]
abbrev dktX1_many_1 : List UInt8 := dkwX1_many_1 ++ dktX1_many_2
def dkwX1_many_0 : List UInt8 := [27]
abbrev dktX1_many_0 : List UInt8 := dkwX1_many_0 ++ dktX1_many_1
theorem dksX1_many_0 : cX1_many.data.toList.drop 0 = dktX1_many_0 := by decide +kernel
theorem dksX1_many_1 : cX1_many.data.toList.drop 1 = dktX1_many_1 := dk_seg dksX1_many_0 1 rfl rfl
theorem dksX1_many_2 : cX1_many.data.toList.drop 36 = dktX1_many_2 := dk_seg dksX1_many_1 35 rfl rfl
theorem dksX1_many_3 : cX1_many.data.toList.drop 60 = dktX1_many_3 := dk_seg dksX1_many_2 24 rfl rfl
theorem dX1_many_0 : decode cX1_many 0 = .ok (.iload_n 1, 1) := dk_27 (dk_at dksX1_many_0 0 rfl rfl)
theorem dX1_many_1 : decode cX1_many 1 = .ok (.tableswitch 60 0 4 #[35, 40, 45, 50, 55], 35) := by decide +kernel
theorem dX1_many_36 : decode cX1_many 36 = .ok (.aload_n 0, 1) := dk_42 (dk_at dksX1_many_2 0 rfl rfl)
theorem dX1_many_37 : decode cX1_many 37 = .ok (.getfield 47, 3) := dk_180 0 47 (dk_at dksX1_many_2 1 rfl rfl)
theorem dX1_many_40 : decode cX1_many 40 = .ok (.ireturn, 1) := dk_172 (dk_at dksX1_many_2 4 rfl rfl)
theorem dX1_many_41 : decode cX1_many 41 = .ok (.aload_n 0, 1) := dk_42 (dk_at dksX1_many_2 5 rfl rfl)
theorem dX1_many_42 : decode cX1_many 42 = .ok (.getfield 277, 3) := dk_180 1 21 (dk_at dksX1_many_2 6 rfl rfl)
theorem dX1_many_45 : decode cX1_many 45 = .ok (.ireturn, 1) := dk_172 (dk_at dksX1_many_2 9 rfl rfl)
theorem dX1_many_46 : decode cX1_many 46 = .ok (.aload_n 0, 1) := dk_42 (dk_at dksX1_many_2 10 rfl rfl)
theorem dX1_many_47 : decode cX1_many 47 = .ok (.getfield 280, 3) := dk_180 1 24 (dk_at dksX1_many_2 11 rfl rfl)
theorem dX1_many_50 : decode cX1_many 50 = .ok (.ireturn, 1) := dk_172 (dk_at dksX1_many_2 14 rfl rfl)
theorem dX1_many_51 : decode cX1_many 51 = .ok (.aload_n 0, 1) := dk_42 (dk_at dksX1_many_2 15 rfl rfl)
theorem dX1_many_52 : decode cX1_many 52 = .ok (.getfield 185, 3) := dk_180 0 185 (dk_at dksX1_many_2 16 rfl rfl)
theorem dX1_many_55 : decode cX1_many 55 = .ok (.ireturn, 1) := dk_172 (dk_at dksX1_many_2 19 rfl rfl)
theorem dX1_many_56 : decode cX1_many 56 = .ok (.aload_n 0, 1) := dk_42 (dk_at dksX1_many_2 20 rfl rfl)
theorem dX1_many_57 : decode cX1_many 57 = .ok (.getfield 251, 3) := dk_180 0 251 (dk_at dksX1_many_2 21 rfl rfl)
theorem dX1_many_60 : decode cX1_many 60 = .ok (.ireturn, 1) := dk_172 (dk_at dksX1_many_3 0 rfl rfl)
theorem dX1_many_61 : decode cX1_many 61 = .ok (.bipush (-3), 2) := dk_16 253 (dk_at dksX1_many_3 1 rfl rfl)
theorem dX1_many_63 : decode cX1_many 63 = .ok (.ireturn, 1) := dk_172 (dk_at dksX1_many_3 3 rfl rfl)
abbrev cX1_drop : ByteArray := prog_1_method_53_code
def yX1_drop : MethodName := ⟨RX1, "drop", "()I"⟩
def dkwX1_drop_1 : List UInt8 := [42, 180, 0, 47, 1, 83, 42, 180, 0, 47, 172]
abbrev dktX1_drop_1 : List UInt8 := dkwX1_drop_1 ++ []
def dkwX1_drop_0 : List UInt8 := [42, 180, 0, 47, 154, 0, 6, 16, 254, 172, 42, 89, 180, 0, 47, 4, 100, 181, 0, 47, 42, 180, 0, 11]
abbrev dktX1_drop_0 : List UInt8 := dkwX1_drop_0 ++ dktX1_drop_1
theorem dksX1_drop_0 : cX1_drop.data.toList.drop 0 = dktX1_drop_0 := by decide +kernel
theorem dksX1_drop_1 : cX1_drop.data.toList.drop 24 = dktX1_drop_1 := dk_seg dksX1_drop_0 24 rfl rfl
theorem dX1_drop_0 : decode cX1_drop 0 = .ok (.aload_n 0, 1) := dk_42 (dk_at dksX1_drop_0 0 rfl rfl)
theorem dX1_drop_1 : decode cX1_drop 1 = .ok (.getfield 47, 3) := dk_180 0 47 (dk_at dksX1_drop_0 1 rfl rfl)
theorem dX1_drop_4 : decode cX1_drop 4 = .ok (.ifCond .ne 6, 3) := dk_154 0 6 (dk_at dksX1_drop_0 4 rfl rfl)
theorem dX1_drop_7 : decode cX1_drop 7 = .ok (.bipush (-2), 2) := dk_16 254 (dk_at dksX1_drop_0 7 rfl rfl)
theorem dX1_drop_9 : decode cX1_drop 9 = .ok (.ireturn, 1) := dk_172 (dk_at dksX1_drop_0 9 rfl rfl)
theorem dX1_drop_10 : decode cX1_drop 10 = .ok (.aload_n 0, 1) := dk_42 (dk_at dksX1_drop_0 10 rfl rfl)
theorem dX1_drop_11 : decode cX1_drop 11 = .ok (.dup, 1) := dk_89 (dk_at dksX1_drop_0 11 rfl rfl)
theorem dX1_drop_12 : decode cX1_drop 12 = .ok (.getfield 47, 3) := dk_180 0 47 (dk_at dksX1_drop_0 12 rfl rfl)
theorem dX1_drop_15 : decode cX1_drop 15 = .ok (.iconst 1, 1) := dk_4 (dk_at dksX1_drop_0 15 rfl rfl)
theorem dX1_drop_16 : decode cX1_drop 16 = .ok (.isub, 1) := dk_100 (dk_at dksX1_drop_0 16 rfl rfl)
theorem dX1_drop_17 : decode cX1_drop 17 = .ok (.putfield 47, 3) := dk_181 0 47 (dk_at dksX1_drop_0 17 rfl rfl)
theorem dX1_drop_20 : decode cX1_drop 20 = .ok (.aload_n 0, 1) := dk_42 (dk_at dksX1_drop_0 20 rfl rfl)
theorem dX1_drop_21 : decode cX1_drop 21 = .ok (.getfield 11, 3) := dk_180 0 11 (dk_at dksX1_drop_0 21 rfl rfl)
theorem dX1_drop_24 : decode cX1_drop 24 = .ok (.aload_n 0, 1) := dk_42 (dk_at dksX1_drop_1 0 rfl rfl)
theorem dX1_drop_25 : decode cX1_drop 25 = .ok (.getfield 47, 3) := dk_180 0 47 (dk_at dksX1_drop_1 1 rfl rfl)
theorem dX1_drop_28 : decode cX1_drop 28 = .ok (.aconst_null, 1) := dk_1 (dk_at dksX1_drop_1 4 rfl rfl)
theorem dX1_drop_29 : decode cX1_drop 29 = .ok (.aastore, 1) := dk_83 (dk_at dksX1_drop_1 5 rfl rfl)
theorem dX1_drop_30 : decode cX1_drop 30 = .ok (.aload_n 0, 1) := dk_42 (dk_at dksX1_drop_1 6 rfl rfl)
theorem dX1_drop_31 : decode cX1_drop 31 = .ok (.getfield 47, 3) := dk_180 0 47 (dk_at dksX1_drop_1 7 rfl rfl)
theorem dX1_drop_34 : decode cX1_drop 34 = .ok (.ireturn, 1) := dk_172 (dk_at dksX1_drop_1 10 rfl rfl)
abbrev cX1_at : ByteArray := prog_1_method_10_code
def yX1_at : MethodName := ⟨RX1, "at", "(II)J"⟩
def dkwX1_at_2 : List UInt8 := [154, 0, 11, 187, 0, 87, 89, 183, 0, 89, 191, 45, 180, 0, 80, 28, 47, 173]
abbrev dktX1_at_2 : List UInt8 := dkwX1_at_2 ++ []
def dkwX1_at_1 : List UInt8 := [199, 0, 11, 187, 0, 90, 89, 183, 0, 92, 191, 28, 3, 45, 180, 0, 80, 190, 4, 100, 184, 0, 51]
abbrev dktX1_at_1 : List UInt8 := dkwX1_at_1 ++ dktX1_at_2
def dkwX1_at_0 : List UInt8 := [42, 27, 182, 0, 76, 154, 0, 11, 187, 0, 87, 89, 183, 0, 89, 191, 42, 180, 0, 11, 27, 50, 78, 45]
abbrev dktX1_at_0 : List UInt8 := dkwX1_at_0 ++ dktX1_at_1
theorem dksX1_at_0 : cX1_at.data.toList.drop 0 = dktX1_at_0 := by decide +kernel
theorem dksX1_at_1 : cX1_at.data.toList.drop 24 = dktX1_at_1 := dk_seg dksX1_at_0 24 rfl rfl
theorem dksX1_at_2 : cX1_at.data.toList.drop 47 = dktX1_at_2 := dk_seg dksX1_at_1 23 rfl rfl
theorem dX1_at_0 : decode cX1_at 0 = .ok (.aload_n 0, 1) := dk_42 (dk_at dksX1_at_0 0 rfl rfl)
theorem dX1_at_1 : decode cX1_at 1 = .ok (.iload_n 1, 1) := dk_27 (dk_at dksX1_at_0 1 rfl rfl)
theorem dX1_at_2 : decode cX1_at 2 = .ok (.invokevirtual 76, 3) := dk_182 0 76 (dk_at dksX1_at_0 2 rfl rfl)
theorem dX1_at_5 : decode cX1_at 5 = .ok (.ifCond .ne 11, 3) := dk_154 0 11 (dk_at dksX1_at_0 5 rfl rfl)
theorem dX1_at_8 : decode cX1_at 8 = .ok (.new 87, 3) := dk_187 0 87 (dk_at dksX1_at_0 8 rfl rfl)
theorem dX1_at_11 : decode cX1_at 11 = .ok (.dup, 1) := dk_89 (dk_at dksX1_at_0 11 rfl rfl)
theorem dX1_at_12 : decode cX1_at 12 = .ok (.invokespecial 89, 3) := dk_183 0 89 (dk_at dksX1_at_0 12 rfl rfl)
theorem dX1_at_15 : decode cX1_at 15 = .ok (.athrow, 1) := dk_191 (dk_at dksX1_at_0 15 rfl rfl)
theorem dX1_at_16 : decode cX1_at 16 = .ok (.aload_n 0, 1) := dk_42 (dk_at dksX1_at_0 16 rfl rfl)
theorem dX1_at_17 : decode cX1_at 17 = .ok (.getfield 11, 3) := dk_180 0 11 (dk_at dksX1_at_0 17 rfl rfl)
theorem dX1_at_20 : decode cX1_at 20 = .ok (.iload_n 1, 1) := dk_27 (dk_at dksX1_at_0 20 rfl rfl)
theorem dX1_at_21 : decode cX1_at 21 = .ok (.aaload, 1) := dk_50 (dk_at dksX1_at_0 21 rfl rfl)
theorem dX1_at_22 : decode cX1_at 22 = .ok (.astore_n 3, 1) := dk_78 (dk_at dksX1_at_0 22 rfl rfl)
theorem dX1_at_23 : decode cX1_at 23 = .ok (.aload_n 3, 1) := dk_45 (dk_at dksX1_at_0 23 rfl rfl)
theorem dX1_at_24 : decode cX1_at 24 = .ok (.ifnonnull 11, 3) := dk_199 0 11 (dk_at dksX1_at_1 0 rfl rfl)
theorem dX1_at_27 : decode cX1_at 27 = .ok (.new 90, 3) := dk_187 0 90 (dk_at dksX1_at_1 3 rfl rfl)
theorem dX1_at_30 : decode cX1_at 30 = .ok (.dup, 1) := dk_89 (dk_at dksX1_at_1 6 rfl rfl)
theorem dX1_at_31 : decode cX1_at 31 = .ok (.invokespecial 92, 3) := dk_183 0 92 (dk_at dksX1_at_1 7 rfl rfl)
theorem dX1_at_34 : decode cX1_at 34 = .ok (.athrow, 1) := dk_191 (dk_at dksX1_at_1 10 rfl rfl)
theorem dX1_at_35 : decode cX1_at 35 = .ok (.iload_n 2, 1) := dk_28 (dk_at dksX1_at_1 11 rfl rfl)
theorem dX1_at_36 : decode cX1_at 36 = .ok (.iconst 0, 1) := dk_3 (dk_at dksX1_at_1 12 rfl rfl)
theorem dX1_at_37 : decode cX1_at 37 = .ok (.aload_n 3, 1) := dk_45 (dk_at dksX1_at_1 13 rfl rfl)
theorem dX1_at_38 : decode cX1_at 38 = .ok (.getfield 80, 3) := dk_180 0 80 (dk_at dksX1_at_1 14 rfl rfl)
theorem dX1_at_41 : decode cX1_at 41 = .ok (.arraylength, 1) := dk_190 (dk_at dksX1_at_1 17 rfl rfl)
theorem dX1_at_42 : decode cX1_at 42 = .ok (.iconst 1, 1) := dk_4 (dk_at dksX1_at_1 18 rfl rfl)
theorem dX1_at_43 : decode cX1_at 43 = .ok (.isub, 1) := dk_100 (dk_at dksX1_at_1 19 rfl rfl)
theorem dX1_at_44 : decode cX1_at 44 = .ok (.invokestatic 51, 3) := dk_184 0 51 (dk_at dksX1_at_1 20 rfl rfl)
theorem dX1_at_47 : decode cX1_at 47 = .ok (.ifCond .ne 11, 3) := dk_154 0 11 (dk_at dksX1_at_2 0 rfl rfl)
theorem dX1_at_50 : decode cX1_at 50 = .ok (.new 87, 3) := dk_187 0 87 (dk_at dksX1_at_2 3 rfl rfl)
theorem dX1_at_53 : decode cX1_at 53 = .ok (.dup, 1) := dk_89 (dk_at dksX1_at_2 6 rfl rfl)
theorem dX1_at_54 : decode cX1_at 54 = .ok (.invokespecial 89, 3) := dk_183 0 89 (dk_at dksX1_at_2 7 rfl rfl)
theorem dX1_at_57 : decode cX1_at 57 = .ok (.athrow, 1) := dk_191 (dk_at dksX1_at_2 10 rfl rfl)
theorem dX1_at_58 : decode cX1_at 58 = .ok (.aload_n 3, 1) := dk_45 (dk_at dksX1_at_2 11 rfl rfl)
theorem dX1_at_59 : decode cX1_at 59 = .ok (.getfield 80, 3) := dk_180 0 80 (dk_at dksX1_at_2 12 rfl rfl)
theorem dX1_at_62 : decode cX1_at 62 = .ok (.iload_n 2, 1) := dk_28 (dk_at dksX1_at_2 15 rfl rfl)
theorem dX1_at_63 : decode cX1_at 63 = .ok (.laload, 1) := dk_47 (dk_at dksX1_at_2 16 rfl rfl)
theorem dX1_at_64 : decode cX1_at 64 = .ok (.lreturn, 1) := dk_173 (dk_at dksX1_at_2 17 rfl rfl)
theorem q54 : (Jvm.Cond.initialized "LevelScores") ∈ lw_all := lw_g (lw_at lw_m1 1 rfl) rfl
theorem q79 : (Jvm.Cond.instantiable "LevelScores" (17 : Nat)) ∈ lw_all := lw_g (lw_at lw_m1 26 rfl) rfl
theorem q81 : (Jvm.Cond.instanceMethod ({ cls := "LevelScores", name := "<init>", desc := "()V" } : Jvm.MethodName)) ∈ lw_all := lw_g (lw_at lw_m1 28 rfl) rfl
theorem q82 : (Jvm.Cond.code ({ cls := "LevelScores", name := "<init>", desc := "()V" } : Jvm.MethodName) prog_1_method_1_code (1 : Nat) (Option.none : Option Jvm.ClassFile.FieldType)) ∈ lw_all := lw_g (lw_at lw_m1 29 rfl) rfl
theorem q83 : (Jvm.Cond.methodLink "LevelScores" (1 : Nat) ({ cls := "java/lang/Object", name := "<init>", desc := "()V" } : Jvm.MethodName)) ∈ lw_all := lw_g (lw_at lw_m1 30 rfl) rfl
theorem q86 : (Jvm.Cond.classLink "LevelScores" (9 : Nat) "LevelScores$Score") ∈ lw_all := lw_g (lw_at lw_m1 33 rfl) rfl
theorem q88 : (Jvm.Cond.classLink "LevelScores" (22 : Nat) "LevelScores$Simple") ∈ lw_all := lw_g (lw_at lw_m1 35 rfl) rfl
theorem q90 : (Jvm.Cond.methodLink "LevelScores" (24 : Nat) ({ cls := "LevelScores$Simple", name := "<init>", desc := "()V" } : Jvm.MethodName)) ∈ lw_all := lw_g (lw_at lw_m1 37 rfl) rfl
theorem q98 : (Jvm.Cond.fieldLink "LevelScores" (80 : Nat) "LevelScores$Score" "level" "[J") ∈ lw_all := lw_g (lw_at lw_m1 45 rfl) rfl
theorem q104 : (Jvm.Cond.fieldLink "LevelScores" (11 : Nat) "LevelScores" "score" "[LLevelScores$Score;") ∈ lw_all := lw_g (lw_at lw_m1 51 rfl) rfl
theorem q105 : (Jvm.Cond.fieldLink "LevelScores" (47 : Nat) "LevelScores" "scores" "I") ∈ lw_all := lw_g (lw_at lw_m1 52 rfl) rfl
theorem q106 : (Jvm.Cond.fieldLink "LevelScores" (15 : Nat) "LevelScores" "tape" "[B") ∈ lw_all := lw_g (lw_at lw_m1 53 rfl) rfl
theorem q107 : (Jvm.Cond.fieldLink "LevelScores" (185 : Nat) "LevelScores" "taped" "I") ∈ lw_all := lw_g (lw_at lw_m1 54 rfl) rfl
theorem q108 : (Jvm.Cond.fieldLink "LevelScores" (19 : Nat) "LevelScores" "out" "[B") ∈ lw_all := lw_g (lw_at lw_m1 55 rfl) rfl
theorem q109 : (Jvm.Cond.fieldLink "LevelScores" (251 : Nat) "LevelScores" "written" "I") ∈ lw_all := lw_g (lw_at lw_m1 56 rfl) rfl
theorem q110 : (Jvm.Cond.fieldLink "LevelScores" (25 : Nat) "LevelScores" "plan" "LLevelScores$Score;") ∈ lw_all := lw_g (lw_at lw_m1 57 rfl) rfl
theorem q111 : (Jvm.Cond.fieldLink "LevelScores" (29 : Nat) "LevelScores" "weight" "[LLevelScores$Score;") ∈ lw_all := lw_g (lw_at lw_m1 58 rfl) rfl
theorem q112 : (Jvm.Cond.fieldLink "LevelScores" (32 : Nat) "LevelScores" "count" "[I") ∈ lw_all := lw_g (lw_at lw_m1 59 rfl) rfl
theorem q113 : (Jvm.Cond.fieldLink "LevelScores" (277 : Nat) "LevelScores" "rules" "I") ∈ lw_all := lw_g (lw_at lw_m1 60 rfl) rfl
theorem q114 : (Jvm.Cond.fieldLink "LevelScores" (36 : Nat) "LevelScores" "best" "[LLevelScores$Score;") ∈ lw_all := lw_g (lw_at lw_m1 61 rfl) rfl
theorem q115 : (Jvm.Cond.fieldLink "LevelScores" (280 : Nat) "LevelScores" "bests" "I") ∈ lw_all := lw_g (lw_at lw_m1 62 rfl) rfl
theorem q116 : (Jvm.Cond.fieldLink "LevelScores" (188 : Nat) "LevelScores" "at" "I") ∈ lw_all := lw_g (lw_at lw_m1 63 rfl) rfl
theorem q117 : (Jvm.Cond.fieldLink "LevelScores" (147 : Nat) "LevelScores" "high" "J") ∈ lw_all := lw_g (lw_at lw_m1 64 rfl) rfl
theorem q118 : (Jvm.Cond.fieldLink "LevelScores" (151 : Nat) "LevelScores" "low" "J") ∈ lw_all := lw_g (lw_at lw_m1 65 rfl) rfl
theorem q119 : (Jvm.Cond.fieldLink "LevelScores" (39 : Nat) "LevelScores" "read" "[J") ∈ lw_all := lw_g (lw_at lw_m1 66 rfl) rfl
theorem q120 : (Jvm.Cond.laysFinal "LevelScores" "LevelScores" "score" "[LLevelScores$Score;") ∈ lw_all := lw_g (lw_at lw_m1 67 rfl) rfl
theorem q121 : (Jvm.Cond.soleField "LevelScores" "score") ∈ lw_all := lw_g (lw_at lw_m1 68 rfl) rfl
theorem q122 : (Jvm.Cond.lays "LevelScores" "LevelScores" "scores" "I") ∈ lw_all := lw_g (lw_at lw_m1 69 rfl) rfl
theorem q123 : (Jvm.Cond.soleField "LevelScores" "scores") ∈ lw_all := lw_g (lw_at lw_m1 70 rfl) rfl
theorem q124 : (Jvm.Cond.laysFinal "LevelScores" "LevelScores" "tape" "[B") ∈ lw_all := lw_g (lw_at lw_m1 71 rfl) rfl
theorem q125 : (Jvm.Cond.soleField "LevelScores" "tape") ∈ lw_all := lw_g (lw_at lw_m1 72 rfl) rfl
theorem q126 : (Jvm.Cond.lays "LevelScores" "LevelScores" "taped" "I") ∈ lw_all := lw_g (lw_at lw_m1 73 rfl) rfl
theorem q127 : (Jvm.Cond.soleField "LevelScores" "taped") ∈ lw_all := lw_g (lw_at lw_m1 74 rfl) rfl
theorem q128 : (Jvm.Cond.laysFinal "LevelScores" "LevelScores" "out" "[B") ∈ lw_all := lw_g (lw_at lw_m1 75 rfl) rfl
theorem q129 : (Jvm.Cond.soleField "LevelScores" "out") ∈ lw_all := lw_g (lw_at lw_m1 76 rfl) rfl
theorem q130 : (Jvm.Cond.lays "LevelScores" "LevelScores" "written" "I") ∈ lw_all := lw_g (lw_at lw_m1 77 rfl) rfl
theorem q131 : (Jvm.Cond.soleField "LevelScores" "written") ∈ lw_all := lw_g (lw_at lw_m1 78 rfl) rfl
theorem q132 : (Jvm.Cond.lays "LevelScores" "LevelScores" "plan" "LLevelScores$Score;") ∈ lw_all := lw_g (lw_at lw_m1 79 rfl) rfl
theorem q133 : (Jvm.Cond.soleField "LevelScores" "plan") ∈ lw_all := lw_g (lw_at lw_m1 80 rfl) rfl
theorem q134 : (Jvm.Cond.laysFinal "LevelScores" "LevelScores" "weight" "[LLevelScores$Score;") ∈ lw_all := lw_g (lw_at lw_m1 81 rfl) rfl
theorem q135 : (Jvm.Cond.soleField "LevelScores" "weight") ∈ lw_all := lw_g (lw_at lw_m1 82 rfl) rfl
theorem q136 : (Jvm.Cond.laysFinal "LevelScores" "LevelScores" "count" "[I") ∈ lw_all := lw_g (lw_at lw_m1 83 rfl) rfl
theorem q137 : (Jvm.Cond.soleField "LevelScores" "count") ∈ lw_all := lw_g (lw_at lw_m1 84 rfl) rfl
theorem q138 : (Jvm.Cond.lays "LevelScores" "LevelScores" "rules" "I") ∈ lw_all := lw_g (lw_at lw_m1 85 rfl) rfl
theorem q139 : (Jvm.Cond.soleField "LevelScores" "rules") ∈ lw_all := lw_g (lw_at lw_m1 86 rfl) rfl
theorem q140 : (Jvm.Cond.laysFinal "LevelScores" "LevelScores" "best" "[LLevelScores$Score;") ∈ lw_all := lw_g (lw_at lw_m1 87 rfl) rfl
theorem q141 : (Jvm.Cond.soleField "LevelScores" "best") ∈ lw_all := lw_g (lw_at lw_m1 88 rfl) rfl
theorem q142 : (Jvm.Cond.lays "LevelScores" "LevelScores" "bests" "I") ∈ lw_all := lw_g (lw_at lw_m1 89 rfl) rfl
theorem q143 : (Jvm.Cond.soleField "LevelScores" "bests") ∈ lw_all := lw_g (lw_at lw_m1 90 rfl) rfl
theorem q144 : (Jvm.Cond.lays "LevelScores" "LevelScores" "at" "I") ∈ lw_all := lw_g (lw_at lw_m1 91 rfl) rfl
theorem q145 : (Jvm.Cond.soleField "LevelScores" "at") ∈ lw_all := lw_g (lw_at lw_m1 92 rfl) rfl
theorem q146 : (Jvm.Cond.lays "LevelScores" "LevelScores" "wrong" "I") ∈ lw_all := lw_g (lw_at lw_m1 93 rfl) rfl
theorem q147 : (Jvm.Cond.soleField "LevelScores" "wrong") ∈ lw_all := lw_g (lw_at lw_m1 94 rfl) rfl
theorem q148 : (Jvm.Cond.lays "LevelScores" "LevelScores" "high" "J") ∈ lw_all := lw_g (lw_at lw_m1 95 rfl) rfl
theorem q149 : (Jvm.Cond.soleField "LevelScores" "high") ∈ lw_all := lw_g (lw_at lw_m1 96 rfl) rfl
theorem q150 : (Jvm.Cond.lays "LevelScores" "LevelScores" "low" "J") ∈ lw_all := lw_g (lw_at lw_m1 97 rfl) rfl
theorem q151 : (Jvm.Cond.soleField "LevelScores" "low") ∈ lw_all := lw_g (lw_at lw_m1 98 rfl) rfl
theorem q152 : (Jvm.Cond.laysFinal "LevelScores" "LevelScores" "read" "[J") ∈ lw_all := lw_g (lw_at lw_m1 99 rfl) rfl
theorem q153 : (Jvm.Cond.soleField "LevelScores" "read") ∈ lw_all := lw_g (lw_at lw_m1 100 rfl) rfl
theorem q154 : (Jvm.Cond.superclass "LevelScores" "java/lang/Object") ∈ lw_all := lw_g (lw_at lw_m1 101 rfl) rfl
theorem q157 : (Jvm.Cond.instanceMethod ({ cls := "LevelScores", name := "make", desc := "(III)I" } : Jvm.MethodName)) ∈ lw_all := lw_g (lw_at lw_m1 104 rfl) rfl
theorem q158 : (Jvm.Cond.selects "LevelScores" ({ cls := "LevelScores", name := "make", desc := "(III)I" } : Jvm.MethodName) ({ cls := "LevelScores", name := "make", desc := "(III)I" } : Jvm.MethodName)) ∈ lw_all := lw_g (lw_at lw_m1 105 rfl) rfl
theorem q159 : (Jvm.Cond.codeWith ({ cls := "LevelScores", name := "make", desc := "(III)I" } : Jvm.MethodName) prog_1_method_7_code (5 : Nat) (Option.some Jvm.ClassFile.FieldType.int) [((49 : Nat), (59 : Nat), (60 : Nat), (74 : Nat))]) ∈ lw_all := lw_g (lw_at lw_m1 106 rfl) rfl
theorem q160 : (Jvm.Cond.classLink "LevelScores" (74 : Nat) "java/lang/NegativeArraySizeException") ∈ lw_all := lw_g (lw_at lw_m1 107 rfl) rfl
theorem q248 : (Jvm.Cond.methodLink "LevelScores" (51 : Nat) ({ cls := "LevelScores", name := "is", desc := "(III)Z" } : Jvm.MethodName)) ∈ lw_all := lw_g (lw_at lw_m1 195 rfl) rfl
theorem q249 : (Jvm.Cond.static ({ cls := "LevelScores", name := "is", desc := "(III)Z" } : Jvm.MethodName)) ∈ lw_all := lw_g (lw_at lw_m1 196 rfl) rfl
theorem q250 : (Jvm.Cond.code ({ cls := "LevelScores", name := "is", desc := "(III)Z" } : Jvm.MethodName) prog_1_method_2_code (3 : Nat) (Option.some Jvm.ClassFile.FieldType.boolean)) ∈ lw_all := lw_g (lw_at lw_m1 197 rfl) rfl
theorem q251 : (Jvm.Cond.methodLink "LevelScores" (66 : Nat) ({ cls := "LevelScores", name := "made", desc := "(III)LLevelScores$Score;" } : Jvm.MethodName)) ∈ lw_all := lw_g (lw_at lw_m1 198 rfl) rfl
theorem q252 : (Jvm.Cond.static ({ cls := "LevelScores", name := "made", desc := "(III)LLevelScores$Score;" } : Jvm.MethodName)) ∈ lw_all := lw_g (lw_at lw_m1 199 rfl) rfl
theorem q253 : (Jvm.Cond.code ({ cls := "LevelScores", name := "made", desc := "(III)LLevelScores$Score;" } : Jvm.MethodName) prog_1_method_6_code (3 : Nat) (Option.some (Jvm.ClassFile.FieldType.object "LevelScores$Score"))) ∈ lw_all := lw_g (lw_at lw_m1 200 rfl) rfl
theorem q254 : (Jvm.Cond.classLink "LevelScores" (55 : Nat) "LevelScores$Two") ∈ lw_all := lw_g (lw_at lw_m1 201 rfl) rfl
theorem q256 : (Jvm.Cond.methodLink "LevelScores" (57 : Nat) ({ cls := "LevelScores$Two", name := "<init>", desc := "()V" } : Jvm.MethodName)) ∈ lw_all := lw_g (lw_at lw_m1 203 rfl) rfl
theorem q264 : (Jvm.Cond.classLink "LevelScores" (58 : Nat) "LevelScores$Three") ∈ lw_all := lw_g (lw_at lw_m1 211 rfl) rfl
theorem q266 : (Jvm.Cond.methodLink "LevelScores" (60 : Nat) ({ cls := "LevelScores$Three", name := "<init>", desc := "()V" } : Jvm.MethodName)) ∈ lw_all := lw_g (lw_at lw_m1 213 rfl) rfl
theorem q274 : (Jvm.Cond.classLink "LevelScores" (61 : Nat) "LevelScores$Bent") ∈ lw_all := lw_g (lw_at lw_m1 221 rfl) rfl
theorem q276 : (Jvm.Cond.methodLink "LevelScores" (63 : Nat) ({ cls := "LevelScores$Bent", name := "<init>", desc := "(II)V" } : Jvm.MethodName)) ∈ lw_all := lw_g (lw_at lw_m1 223 rfl) rfl
theorem q291 : (Jvm.Cond.methodLink "LevelScores" (70 : Nat) ({ cls := "LevelScores", name := "keepNew", desc := "(LLevelScores$Score;)I" } : Jvm.MethodName)) ∈ lw_all := lw_g (lw_at lw_m1 238 rfl) rfl
theorem q292 : (Jvm.Cond.privateMethod ({ cls := "LevelScores", name := "keepNew", desc := "(LLevelScores$Score;)I" } : Jvm.MethodName)) ∈ lw_tbl := lw_at lw_m1 239 rfl
theorem q293 : (Jvm.Cond.instanceMethod ({ cls := "LevelScores", name := "keepNew", desc := "(LLevelScores$Score;)I" } : Jvm.MethodName)) ∈ lw_all := lw_g (lw_at lw_m2 0 rfl) rfl
theorem q294 : (Jvm.Cond.code ({ cls := "LevelScores", name := "keepNew", desc := "(LLevelScores$Score;)I" } : Jvm.MethodName) prog_1_method_5_code (2 : Nat) (Option.some Jvm.ClassFile.FieldType.int)) ∈ lw_all := lw_g (lw_at lw_m2 1 rfl) rfl
theorem q296 : (Jvm.Cond.instanceMethod ({ cls := "LevelScores", name := "nothing", desc := "()I" } : Jvm.MethodName)) ∈ lw_all := lw_g (lw_at lw_m2 3 rfl) rfl
theorem q297 : (Jvm.Cond.selects "LevelScores" ({ cls := "LevelScores", name := "nothing", desc := "()I" } : Jvm.MethodName) ({ cls := "LevelScores", name := "nothing", desc := "()I" } : Jvm.MethodName)) ∈ lw_all := lw_g (lw_at lw_m2 4 rfl) rfl
theorem q298 : (Jvm.Cond.code ({ cls := "LevelScores", name := "nothing", desc := "()I" } : Jvm.MethodName) prog_1_method_8_code (1 : Nat) (Option.some Jvm.ClassFile.FieldType.int)) ∈ lw_all := lw_g (lw_at lw_m2 5 rfl) rfl
theorem q300 : (Jvm.Cond.instanceMethod ({ cls := "LevelScores", name := "set", desc := "(IIJ)I" } : Jvm.MethodName)) ∈ lw_all := lw_g (lw_at lw_m2 7 rfl) rfl
theorem q301 : (Jvm.Cond.selects "LevelScores" ({ cls := "LevelScores", name := "set", desc := "(IIJ)I" } : Jvm.MethodName) ({ cls := "LevelScores", name := "set", desc := "(IIJ)I" } : Jvm.MethodName)) ∈ lw_all := lw_g (lw_at lw_m2 8 rfl) rfl
theorem q302 : (Jvm.Cond.codeWith ({ cls := "LevelScores", name := "set", desc := "(IIJ)I" } : Jvm.MethodName) prog_1_method_9_code (6 : Nat) (Option.some Jvm.ClassFile.FieldType.int) [((11 : Nat), (23 : Nat), (26 : Nat), (83 : Nat)), ((11 : Nat), (23 : Nat), (31 : Nat), (85 : Nat))]) ∈ lw_all := lw_g (lw_at lw_m2 9 rfl) rfl
theorem q303 : (Jvm.Cond.classLink "LevelScores" (83 : Nat) "java/lang/NullPointerException") ∈ lw_all := lw_g (lw_at lw_m2 10 rfl) rfl
theorem q328 : (Jvm.Cond.classLink "LevelScores" (85 : Nat) "java/lang/ArrayIndexOutOfBoundsException") ∈ lw_all := lw_g (lw_at lw_m2 35 rfl) rfl
theorem q347 : (Jvm.Cond.methodLink "LevelScores" (76 : Nat) ({ cls := "LevelScores", name := "isScore", desc := "(I)Z" } : Jvm.MethodName)) ∈ lw_all := lw_g (lw_at lw_m2 54 rfl) rfl
theorem q348 : (Jvm.Cond.privateMethod ({ cls := "LevelScores", name := "isScore", desc := "(I)Z" } : Jvm.MethodName)) ∈ lw_tbl := lw_at lw_m2 55 rfl
theorem q349 : (Jvm.Cond.instanceMethod ({ cls := "LevelScores", name := "isScore", desc := "(I)Z" } : Jvm.MethodName)) ∈ lw_all := lw_g (lw_at lw_m2 56 rfl) rfl
theorem q350 : (Jvm.Cond.code ({ cls := "LevelScores", name := "isScore", desc := "(I)Z" } : Jvm.MethodName) prog_1_method_4_code (2 : Nat) (Option.some Jvm.ClassFile.FieldType.boolean)) ∈ lw_all := lw_g (lw_at lw_m2 57 rfl) rfl
theorem q352 : (Jvm.Cond.instanceMethod ({ cls := "LevelScores", name := "told", desc := "(II)I" } : Jvm.MethodName)) ∈ lw_all := lw_g (lw_at lw_m2 59 rfl) rfl
theorem q353 : (Jvm.Cond.selects "LevelScores" ({ cls := "LevelScores", name := "told", desc := "(II)I" } : Jvm.MethodName) ({ cls := "LevelScores", name := "told", desc := "(II)I" } : Jvm.MethodName)) ∈ lw_all := lw_g (lw_at lw_m2 60 rfl) rfl
theorem q354 : (Jvm.Cond.codeWith ({ cls := "LevelScores", name := "told", desc := "(II)I" } : Jvm.MethodName) prog_1_method_12_code (6 : Nat) (Option.some Jvm.ClassFile.FieldType.int) [((33 : Nat), (86 : Nat), (87 : Nat), (83 : Nat))]) ∈ lw_all := lw_g (lw_at lw_m2 61 rfl) rfl
theorem q355 : (Jvm.Cond.methodLink "LevelScores" (102 : Nat) ({ cls := "LevelScores$Score", name := "shape", desc := "()I" } : Jvm.MethodName)) ∈ lw_all := lw_g (lw_at lw_m2 62 rfl) rfl
theorem q370 : (Jvm.Cond.interfaceEntry "LevelScores" (105 : Nat)) ∈ lw_tbl := lw_at lw_m2 77 rfl
theorem q371 : (Jvm.Cond.methodLink "LevelScores" (105 : Nat) ({ cls := "LevelScores$Shaped", name := "hard", desc := "()I" } : Jvm.MethodName)) ∈ lw_all := lw_g (lw_at lw_m2 78 rfl) rfl
theorem q395 : (Jvm.Cond.interfaceEntry "LevelScores" (93 : Nat)) ∈ lw_tbl := lw_at lw_m2 102 rfl
theorem q396 : (Jvm.Cond.methodLink "LevelScores" (93 : Nat) ({ cls := "LevelScores$Shaped", name := "levels", desc := "()I" } : Jvm.MethodName)) ∈ lw_all := lw_g (lw_at lw_m2 103 rfl) rfl
theorem q432 : (Jvm.Cond.methodLink "LevelScores" (108 : Nat) ({ cls := "LevelScores", name := "isFeasible", desc := "(LLevelScores$Score;)Z" } : Jvm.MethodName)) ∈ lw_all := lw_g (lw_at lw_m2 139 rfl) rfl
theorem q433 : (Jvm.Cond.static ({ cls := "LevelScores", name := "isFeasible", desc := "(LLevelScores$Score;)Z" } : Jvm.MethodName)) ∈ lw_all := lw_g (lw_at lw_m2 140 rfl) rfl
theorem q434 : (Jvm.Cond.code ({ cls := "LevelScores", name := "isFeasible", desc := "(LLevelScores$Score;)Z" } : Jvm.MethodName) prog_1_method_11_code (4 : Nat) (Option.some Jvm.ClassFile.FieldType.boolean)) ∈ lw_all := lw_g (lw_at lw_m2 141 rfl) rfl
theorem q435 : (Jvm.Cond.interfaceEntry "LevelScores" (99 : Nat)) ∈ lw_tbl := lw_at lw_m2 142 rfl
theorem q436 : (Jvm.Cond.methodLink "LevelScores" (99 : Nat) ({ cls := "LevelScores$Shaped", name := "isHard", desc := "(I)Z" } : Jvm.MethodName)) ∈ lw_all := lw_g (lw_at lw_m2 143 rfl) rfl
theorem q447 : (Jvm.Cond.instanceMethod ({ cls := "LevelScores", name := "act", desc := "(III)I" } : Jvm.MethodName)) ∈ lw_all := lw_g (lw_at lw_m2 154 rfl) rfl
theorem q448 : (Jvm.Cond.selects "LevelScores" ({ cls := "LevelScores", name := "act", desc := "(III)I" } : Jvm.MethodName) ({ cls := "LevelScores", name := "act", desc := "(III)I" } : Jvm.MethodName)) ∈ lw_all := lw_g (lw_at lw_m2 155 rfl) rfl
theorem q449 : (Jvm.Cond.codeWith ({ cls := "LevelScores", name := "act", desc := "(III)I" } : Jvm.MethodName) prog_1_method_15_code (5 : Nat) (Option.some Jvm.ClassFile.FieldType.int) [((43 : Nat), (63 : Nat), (64 : Nat), (83 : Nat)), ((43 : Nat), (63 : Nat), (69 : Nat), (145 : Nat)), ((43 : Nat), (63 : Nat), (74 : Nat), (121 : Nat))]) ∈ lw_all := lw_g (lw_at lw_m2 156 rfl) rfl
theorem q450 : (Jvm.Cond.classLink "LevelScores" (145 : Nat) "java/lang/ClassCastException") ∈ lw_all := lw_g (lw_at lw_m2 157 rfl) rfl
theorem q464 : (Jvm.Cond.classLink "LevelScores" (121 : Nat) "java/lang/IllegalStateException") ∈ lw_all := lw_g (lw_at lw_m2 171 rfl) rfl
theorem q465 : (Jvm.Cond.methodLink "LevelScores" (141 : Nat) ({ cls := "LevelScores", name := "joined", desc := "(ILLevelScores$Score;LLevelScores$Score;)LLevelScores$Score;" } : Jvm.MethodName)) ∈ lw_all := lw_g (lw_at lw_m2 172 rfl) rfl
theorem q466 : (Jvm.Cond.static ({ cls := "LevelScores", name := "joined", desc := "(ILLevelScores$Score;LLevelScores$Score;)LLevelScores$Score;" } : Jvm.MethodName)) ∈ lw_all := lw_g (lw_at lw_m2 173 rfl) rfl
theorem q467 : (Jvm.Cond.code ({ cls := "LevelScores", name := "joined", desc := "(ILLevelScores$Score;LLevelScores$Score;)LLevelScores$Score;" } : Jvm.MethodName) prog_1_method_14_code (5 : Nat) (Option.some (Jvm.ClassFile.FieldType.object "LevelScores$Score"))) ∈ lw_all := lw_g (lw_at lw_m2 174 rfl) rfl
theorem q468 : (Jvm.Cond.methodLink "LevelScores" (124 : Nat) ({ cls := "LevelScores", name := "like", desc := "(LLevelScores$Score;LLevelScores$Score;)V" } : Jvm.MethodName)) ∈ lw_all := lw_g (lw_at lw_m2 175 rfl) rfl
theorem q469 : (Jvm.Cond.static ({ cls := "LevelScores", name := "like", desc := "(LLevelScores$Score;LLevelScores$Score;)V" } : Jvm.MethodName)) ∈ lw_all := lw_g (lw_at lw_m2 176 rfl) rfl
theorem q470 : (Jvm.Cond.code ({ cls := "LevelScores", name := "like", desc := "(LLevelScores$Score;LLevelScores$Score;)V" } : Jvm.MethodName) prog_1_method_3_code (2 : Nat) (Option.none : Option Jvm.ClassFile.FieldType)) ∈ lw_all := lw_g (lw_at lw_m2 177 rfl) rfl
theorem q471 : (Jvm.Cond.methodLink "LevelScores" (43 : Nat) ({ cls := "LevelScores$Score", name := "match", desc := "(LLevelScores$Score;)V" } : Jvm.MethodName)) ∈ lw_all := lw_g (lw_at lw_m2 178 rfl) rfl
theorem q495 : (Jvm.Cond.methodLink "LevelScores" (128 : Nat) ({ cls := "LevelScores$Score", name := "isLess", desc := "(LLevelScores$Score;)Z" } : Jvm.MethodName)) ∈ lw_all := lw_g (lw_at lw_m2 202 rfl) rfl
theorem q511 : (Jvm.Cond.methodLink "LevelScores" (131 : Nat) ({ cls := "LevelScores$Score", name := "copy", desc := "()LLevelScores$Score;" } : Jvm.MethodName)) ∈ lw_all := lw_g (lw_at lw_m2 218 rfl) rfl
theorem q541 : (Jvm.Cond.methodLink "LevelScores" (135 : Nat) ({ cls := "LevelScores$Score", name := "fresh", desc := "()LLevelScores$Score;" } : Jvm.MethodName)) ∈ lw_all := lw_g (lw_at lw_m3 8 rfl) rfl
theorem q542 : (Jvm.Cond.methodLink "LevelScores" (138 : Nat) ({ cls := "LevelScores", name := "made", desc := "(IJJ)J" } : Jvm.MethodName)) ∈ lw_all := lw_g (lw_at lw_m3 9 rfl) rfl
theorem q543 : (Jvm.Cond.static ({ cls := "LevelScores", name := "made", desc := "(IJJ)J" } : Jvm.MethodName)) ∈ lw_all := lw_g (lw_at lw_m3 10 rfl) rfl
theorem q544 : (Jvm.Cond.code ({ cls := "LevelScores", name := "made", desc := "(IJJ)J" } : Jvm.MethodName) prog_1_method_13_code (8 : Nat) (Option.some Jvm.ClassFile.FieldType.long)) ∈ lw_all := lw_g (lw_at lw_m3 11 rfl) rfl
theorem q545 : (Jvm.Cond.methodLink "LevelScores" (112 : Nat) ({ cls := "java/lang/Math", name := "max", desc := "(JJ)J" } : Jvm.MethodName)) ∈ lw_all := lw_g (lw_at lw_m3 12 rfl) rfl
theorem q548 : (Jvm.Cond.methodLink "LevelScores" (118 : Nat) ({ cls := "java/lang/Math", name := "min", desc := "(JJ)J" } : Jvm.MethodName)) ∈ lw_all := lw_g (lw_at lw_m3 15 rfl) rfl
theorem q559 : (Jvm.Cond.methodLink "LevelScores" (123 : Nat) ({ cls := "java/lang/IllegalStateException", name := "<init>", desc := "()V" } : Jvm.MethodName)) ∈ lw_all := lw_g (lw_at lw_m3 26 rfl) rfl
theorem q566 : (Jvm.Cond.instanceMethod ({ cls := "LevelScores", name := "times", desc := "(III)I" } : Jvm.MethodName)) ∈ lw_all := lw_g (lw_at lw_m3 33 rfl) rfl
theorem q567 : (Jvm.Cond.selects "LevelScores" ({ cls := "LevelScores", name := "times", desc := "(III)I" } : Jvm.MethodName) ({ cls := "LevelScores", name := "times", desc := "(III)I" } : Jvm.MethodName)) ∈ lw_all := lw_g (lw_at lw_m3 34 rfl) rfl
theorem q568 : (Jvm.Cond.codeWith ({ cls := "LevelScores", name := "times", desc := "(III)I" } : Jvm.MethodName) prog_1_method_22_code (5 : Nat) (Option.some Jvm.ClassFile.FieldType.int) [((23 : Nat), (39 : Nat), (40 : Nat), (83 : Nat)), ((23 : Nat), (39 : Nat), (45 : Nat), (183 : Nat)), ((23 : Nat), (39 : Nat), (50 : Nat), (121 : Nat))]) ∈ lw_all := lw_g (lw_at lw_m3 35 rfl) rfl
theorem q569 : (Jvm.Cond.classLink "LevelScores" (183 : Nat) "java/lang/ArithmeticException") ∈ lw_all := lw_g (lw_at lw_m3 36 rfl) rfl
theorem q583 : (Jvm.Cond.methodLink "LevelScores" (179 : Nat) ({ cls := "LevelScores", name := "portions", desc := "(LLevelScores$Score;II)LLevelScores$Score;" } : Jvm.MethodName)) ∈ lw_all := lw_g (lw_at lw_m3 50 rfl) rfl
theorem q584 : (Jvm.Cond.privateMethod ({ cls := "LevelScores", name := "portions", desc := "(LLevelScores$Score;II)LLevelScores$Score;" } : Jvm.MethodName)) ∈ lw_tbl := lw_at lw_m3 51 rfl
theorem q585 : (Jvm.Cond.instanceMethod ({ cls := "LevelScores", name := "portions", desc := "(LLevelScores$Score;II)LLevelScores$Score;" } : Jvm.MethodName)) ∈ lw_all := lw_g (lw_at lw_m3 52 rfl) rfl
theorem q586 : (Jvm.Cond.code ({ cls := "LevelScores", name := "portions", desc := "(LLevelScores$Score;II)LLevelScores$Score;" } : Jvm.MethodName) prog_1_method_21_code (6 : Nat) (Option.some (Jvm.ClassFile.FieldType.object "LevelScores$Score"))) ∈ lw_all := lw_g (lw_at lw_m3 53 rfl) rfl
theorem q587 : (Jvm.Cond.methodLink "LevelScores" (175 : Nat) ({ cls := "LevelScores", name := "portion", desc := "(JII)J" } : Jvm.MethodName)) ∈ lw_all := lw_g (lw_at lw_m3 54 rfl) rfl
theorem q588 : (Jvm.Cond.privateMethod ({ cls := "LevelScores", name := "portion", desc := "(JII)J" } : Jvm.MethodName)) ∈ lw_tbl := lw_at lw_m3 55 rfl
theorem q589 : (Jvm.Cond.instanceMethod ({ cls := "LevelScores", name := "portion", desc := "(JII)J" } : Jvm.MethodName)) ∈ lw_all := lw_g (lw_at lw_m3 56 rfl) rfl
theorem q590 : (Jvm.Cond.code ({ cls := "LevelScores", name := "portion", desc := "(JII)J" } : Jvm.MethodName) prog_1_method_20_code (11 : Nat) (Option.some Jvm.ClassFile.FieldType.long)) ∈ lw_all := lw_g (lw_at lw_m3 57 rfl) rfl
theorem q591 : (Jvm.Cond.methodLink "LevelScores" (164 : Nat) ({ cls := "LevelScores", name := "clearWide", desc := "()V" } : Jvm.MethodName)) ∈ lw_all := lw_g (lw_at lw_m3 58 rfl) rfl
theorem q592 : (Jvm.Cond.privateMethod ({ cls := "LevelScores", name := "clearWide", desc := "()V" } : Jvm.MethodName)) ∈ lw_tbl := lw_at lw_m3 59 rfl
theorem q593 : (Jvm.Cond.instanceMethod ({ cls := "LevelScores", name := "clearWide", desc := "()V" } : Jvm.MethodName)) ∈ lw_all := lw_g (lw_at lw_m3 60 rfl) rfl
theorem q594 : (Jvm.Cond.code ({ cls := "LevelScores", name := "clearWide", desc := "()V" } : Jvm.MethodName) prog_1_method_18_code (1 : Nat) (Option.none : Option Jvm.ClassFile.FieldType)) ∈ lw_all := lw_g (lw_at lw_m3 61 rfl) rfl
theorem q595 : (Jvm.Cond.methodLink "LevelScores" (167 : Nat) ({ cls := "LevelScores", name := "addTimes", desc := "(JJ)V" } : Jvm.MethodName)) ∈ lw_all := lw_g (lw_at lw_m3 62 rfl) rfl
theorem q596 : (Jvm.Cond.privateMethod ({ cls := "LevelScores", name := "addTimes", desc := "(JJ)V" } : Jvm.MethodName)) ∈ lw_tbl := lw_at lw_m3 63 rfl
theorem q597 : (Jvm.Cond.instanceMethod ({ cls := "LevelScores", name := "addTimes", desc := "(JJ)V" } : Jvm.MethodName)) ∈ lw_all := lw_g (lw_at lw_m3 64 rfl) rfl
theorem q598 : (Jvm.Cond.code ({ cls := "LevelScores", name := "addTimes", desc := "(JJ)V" } : Jvm.MethodName) prog_1_method_19_code (5 : Nat) (Option.none : Option Jvm.ClassFile.FieldType)) ∈ lw_all := lw_g (lw_at lw_m3 65 rfl) rfl
theorem q599 : (Jvm.Cond.constantLong "LevelScores" (154 : Nat) (4294967295 : Int64)) ∈ lw_all := lw_g (lw_at lw_m3 66 rfl) rfl
theorem q600 : (Jvm.Cond.methodLink "LevelScores" (156 : Nat) ({ cls := "LevelScores", name := "level", desc := "()V" } : Jvm.MethodName)) ∈ lw_all := lw_g (lw_at lw_m3 67 rfl) rfl
theorem q601 : (Jvm.Cond.privateMethod ({ cls := "LevelScores", name := "level", desc := "()V" } : Jvm.MethodName)) ∈ lw_tbl := lw_at lw_m3 68 rfl
theorem q602 : (Jvm.Cond.instanceMethod ({ cls := "LevelScores", name := "level", desc := "()V" } : Jvm.MethodName)) ∈ lw_all := lw_g (lw_at lw_m3 69 rfl) rfl
theorem q603 : (Jvm.Cond.code ({ cls := "LevelScores", name := "level", desc := "()V" } : Jvm.MethodName) prog_1_method_16_code (1 : Nat) (Option.none : Option Jvm.ClassFile.FieldType)) ∈ lw_all := lw_g (lw_at lw_m3 70 rfl) rfl
theorem q604 : (Jvm.Cond.methodLink "LevelScores" (171 : Nat) ({ cls := "LevelScores", name := "narrow", desc := "()J" } : Jvm.MethodName)) ∈ lw_all := lw_g (lw_at lw_m3 71 rfl) rfl
theorem q605 : (Jvm.Cond.privateMethod ({ cls := "LevelScores", name := "narrow", desc := "()J" } : Jvm.MethodName)) ∈ lw_tbl := lw_at lw_m3 72 rfl
theorem q606 : (Jvm.Cond.instanceMethod ({ cls := "LevelScores", name := "narrow", desc := "()J" } : Jvm.MethodName)) ∈ lw_all := lw_g (lw_at lw_m3 73 rfl) rfl
theorem q607 : (Jvm.Cond.code ({ cls := "LevelScores", name := "narrow", desc := "()J" } : Jvm.MethodName) prog_1_method_17_code (1 : Nat) (Option.some Jvm.ClassFile.FieldType.long)) ∈ lw_all := lw_g (lw_at lw_m3 74 rfl) rfl
theorem q608 : (Jvm.Cond.constantLong "LevelScores" (160 : Nat) (-2147483648 : Int64)) ∈ lw_all := lw_g (lw_at lw_m3 75 rfl) rfl
theorem q609 : (Jvm.Cond.constantLong "LevelScores" (162 : Nat) (2147483647 : Int64)) ∈ lw_all := lw_g (lw_at lw_m3 76 rfl) rfl
theorem q611 : (Jvm.Cond.instanceMethod ({ cls := "LevelScores", name := "order", desc := "(II)I" } : Jvm.MethodName)) ∈ lw_all := lw_g (lw_at lw_m3 78 rfl) rfl
theorem q612 : (Jvm.Cond.selects "LevelScores" ({ cls := "LevelScores", name := "order", desc := "(II)I" } : Jvm.MethodName) ({ cls := "LevelScores", name := "order", desc := "(II)I" } : Jvm.MethodName)) ∈ lw_all := lw_g (lw_at lw_m3 79 rfl) rfl
theorem q613 : (Jvm.Cond.codeWith ({ cls := "LevelScores", name := "order", desc := "(II)I" } : Jvm.MethodName) prog_1_method_23_code (6 : Nat) (Option.some Jvm.ClassFile.FieldType.int) [((34 : Nat), (40 : Nat), (43 : Nat), (83 : Nat)), ((34 : Nat), (40 : Nat), (48 : Nat), (145 : Nat))]) ∈ lw_all := lw_g (lw_at lw_m3 80 rfl) rfl
theorem q615 : (Jvm.Cond.instanceMethod ({ cls := "LevelScores", name := "put", desc := "(I)I" } : Jvm.MethodName)) ∈ lw_all := lw_g (lw_at lw_m3 82 rfl) rfl
theorem q616 : (Jvm.Cond.selects "LevelScores" ({ cls := "LevelScores", name := "put", desc := "(I)I" } : Jvm.MethodName) ({ cls := "LevelScores", name := "put", desc := "(I)I" } : Jvm.MethodName)) ∈ lw_all := lw_g (lw_at lw_m3 83 rfl) rfl
theorem q617 : (Jvm.Cond.code ({ cls := "LevelScores", name := "put", desc := "(I)I" } : Jvm.MethodName) prog_1_method_24_code (2 : Nat) (Option.some Jvm.ClassFile.FieldType.int)) ∈ lw_all := lw_g (lw_at lw_m3 84 rfl) rfl
theorem q619 : (Jvm.Cond.instanceMethod ({ cls := "LevelScores", name := "read", desc := "()I" } : Jvm.MethodName)) ∈ lw_all := lw_g (lw_at lw_m3 86 rfl) rfl
theorem q620 : (Jvm.Cond.selects "LevelScores" ({ cls := "LevelScores", name := "read", desc := "()I" } : Jvm.MethodName) ({ cls := "LevelScores", name := "read", desc := "()I" } : Jvm.MethodName)) ∈ lw_all := lw_g (lw_at lw_m3 87 rfl) rfl
theorem q621 : (Jvm.Cond.codeWith ({ cls := "LevelScores", name := "read", desc := "()I" } : Jvm.MethodName) prog_1_method_33_code (3 : Nat) (Option.some Jvm.ClassFile.FieldType.int) [((22 : Nat), (63 : Nat), (66 : Nat), (121 : Nat))]) ∈ lw_all := lw_g (lw_at lw_m3 88 rfl) rfl
theorem q622 : (Jvm.Cond.methodLink "LevelScores" (242 : Nat) ({ cls := "LevelScores", name := "text", desc := "()LLevelScores$Score;" } : Jvm.MethodName)) ∈ lw_all := lw_g (lw_at lw_m3 89 rfl) rfl
theorem q623 : (Jvm.Cond.privateMethod ({ cls := "LevelScores", name := "text", desc := "()LLevelScores$Score;" } : Jvm.MethodName)) ∈ lw_tbl := lw_at lw_m3 90 rfl
theorem q624 : (Jvm.Cond.instanceMethod ({ cls := "LevelScores", name := "text", desc := "()LLevelScores$Score;" } : Jvm.MethodName)) ∈ lw_all := lw_g (lw_at lw_m3 91 rfl) rfl
theorem q625 : (Jvm.Cond.code ({ cls := "LevelScores", name := "text", desc := "()LLevelScores$Score;" } : Jvm.MethodName) prog_1_method_32_code (1 : Nat) (Option.some (Jvm.ClassFile.FieldType.object "LevelScores$Score"))) ∈ lw_all := lw_g (lw_at lw_m3 92 rfl) rfl
theorem q626 : (Jvm.Cond.methodLink "LevelScores" (196 : Nat) ({ cls := "LevelScores", name := "now", desc := "()I" } : Jvm.MethodName)) ∈ lw_all := lw_g (lw_at lw_m3 93 rfl) rfl
theorem q627 : (Jvm.Cond.privateMethod ({ cls := "LevelScores", name := "now", desc := "()I" } : Jvm.MethodName)) ∈ lw_tbl := lw_at lw_m3 94 rfl
theorem q628 : (Jvm.Cond.instanceMethod ({ cls := "LevelScores", name := "now", desc := "()I" } : Jvm.MethodName)) ∈ lw_all := lw_g (lw_at lw_m3 95 rfl) rfl
theorem q629 : (Jvm.Cond.code ({ cls := "LevelScores", name := "now", desc := "()I" } : Jvm.MethodName) prog_1_method_25_code (1 : Nat) (Option.some Jvm.ClassFile.FieldType.int)) ∈ lw_all := lw_g (lw_at lw_m3 96 rfl) rfl
theorem q630 : (Jvm.Cond.methodLink "LevelScores" (237 : Nat) ({ cls := "LevelScores", name := "bent", desc := "()LLevelScores$Score;" } : Jvm.MethodName)) ∈ lw_all := lw_g (lw_at lw_m3 97 rfl) rfl
theorem q631 : (Jvm.Cond.privateMethod ({ cls := "LevelScores", name := "bent", desc := "()LLevelScores$Score;" } : Jvm.MethodName)) ∈ lw_tbl := lw_at lw_m3 98 rfl
theorem q632 : (Jvm.Cond.instanceMethod ({ cls := "LevelScores", name := "bent", desc := "()LLevelScores$Score;" } : Jvm.MethodName)) ∈ lw_all := lw_g (lw_at lw_m3 99 rfl) rfl
theorem q633 : (Jvm.Cond.code ({ cls := "LevelScores", name := "bent", desc := "()LLevelScores$Score;" } : Jvm.MethodName) prog_1_method_31_code (3 : Nat) (Option.some (Jvm.ClassFile.FieldType.object "LevelScores$Score"))) ∈ lw_all := lw_g (lw_at lw_m3 100 rfl) rfl
theorem q634 : (Jvm.Cond.methodLink "LevelScores" (229 : Nat) ({ cls := "LevelScores", name := "row", desc := "(IZ)I" } : Jvm.MethodName)) ∈ lw_all := lw_g (lw_at lw_m3 101 rfl) rfl
theorem q635 : (Jvm.Cond.privateMethod ({ cls := "LevelScores", name := "row", desc := "(IZ)I" } : Jvm.MethodName)) ∈ lw_tbl := lw_at lw_m3 102 rfl
theorem q636 : (Jvm.Cond.instanceMethod ({ cls := "LevelScores", name := "row", desc := "(IZ)I" } : Jvm.MethodName)) ∈ lw_all := lw_g (lw_at lw_m3 103 rfl) rfl
theorem q637 : (Jvm.Cond.code ({ cls := "LevelScores", name := "row", desc := "(IZ)I" } : Jvm.MethodName) prog_1_method_30_code (5 : Nat) (Option.some Jvm.ClassFile.FieldType.int)) ∈ lw_all := lw_g (lw_at lw_m3 104 rfl) rfl
theorem q638 : (Jvm.Cond.stringRef "LevelScores" (218 : Nat) "[") ∈ lw_tbl := lw_at lw_m3 105 rfl
theorem q639 : (Jvm.Cond.methodLink "LevelScores" (220 : Nat) ({ cls := "LevelScores", name := "want", desc := "(Ljava/lang/String;)V" } : Jvm.MethodName)) ∈ lw_all := lw_g (lw_at lw_m3 106 rfl) rfl
theorem q640 : (Jvm.Cond.privateMethod ({ cls := "LevelScores", name := "want", desc := "(Ljava/lang/String;)V" } : Jvm.MethodName)) ∈ lw_tbl := lw_at lw_m3 107 rfl
theorem q641 : (Jvm.Cond.instanceMethod ({ cls := "LevelScores", name := "want", desc := "(Ljava/lang/String;)V" } : Jvm.MethodName)) ∈ lw_all := lw_g (lw_at lw_m3 108 rfl) rfl
theorem q642 : (Jvm.Cond.code ({ cls := "LevelScores", name := "want", desc := "(Ljava/lang/String;)V" } : Jvm.MethodName) prog_1_method_27_code (3 : Nat) (Option.none : Option Jvm.ClassFile.FieldType)) ∈ lw_all := lw_g (lw_at lw_m3 109 rfl) rfl
theorem q643 : (Jvm.Cond.methodLink "LevelScores" (191 : Nat) ({ cls := "java/lang/String", name := "length", desc := "()I" } : Jvm.MethodName)) ∈ lw_all := lw_g (lw_at lw_m3 110 rfl) rfl
theorem q653 : (Jvm.Cond.methodLink "LevelScores" (199 : Nat) ({ cls := "java/lang/String", name := "charAt", desc := "(I)C" } : Jvm.MethodName)) ∈ lw_all := lw_g (lw_at lw_m3 120 rfl) rfl
theorem q691 : (Jvm.Cond.methodLink "LevelScores" (203 : Nat) ({ cls := "LevelScores", name := "none", desc := "()V" } : Jvm.MethodName)) ∈ lw_all := lw_g (lw_at lw_m3 158 rfl) rfl
theorem q692 : (Jvm.Cond.privateMethod ({ cls := "LevelScores", name := "none", desc := "()V" } : Jvm.MethodName)) ∈ lw_tbl := lw_at lw_m3 159 rfl
theorem q693 : (Jvm.Cond.instanceMethod ({ cls := "LevelScores", name := "none", desc := "()V" } : Jvm.MethodName)) ∈ lw_all := lw_g (lw_at lw_m3 160 rfl) rfl
theorem q694 : (Jvm.Cond.code ({ cls := "LevelScores", name := "none", desc := "()V" } : Jvm.MethodName) prog_1_method_26_code (1 : Nat) (Option.none : Option Jvm.ClassFile.FieldType)) ∈ lw_all := lw_g (lw_at lw_m3 161 rfl) rfl
theorem q695 : (Jvm.Cond.methodLink "LevelScores" (224 : Nat) ({ cls := "LevelScores", name := "number", desc := "()J" } : Jvm.MethodName)) ∈ lw_all := lw_g (lw_at lw_m3 162 rfl) rfl
theorem q696 : (Jvm.Cond.privateMethod ({ cls := "LevelScores", name := "number", desc := "()J" } : Jvm.MethodName)) ∈ lw_tbl := lw_at lw_m3 163 rfl
theorem q697 : (Jvm.Cond.instanceMethod ({ cls := "LevelScores", name := "number", desc := "()J" } : Jvm.MethodName)) ∈ lw_all := lw_g (lw_at lw_m3 164 rfl) rfl
theorem q698 : (Jvm.Cond.code ({ cls := "LevelScores", name := "number", desc := "()J" } : Jvm.MethodName) prog_1_method_29_code (7 : Nat) (Option.some Jvm.ClassFile.FieldType.long)) ∈ lw_all := lw_g (lw_at lw_m3 165 rfl) rfl
theorem q699 : (Jvm.Cond.methodLink "LevelScores" (206 : Nat) ({ cls := "LevelScores", name := "isFigure", desc := "()Z" } : Jvm.MethodName)) ∈ lw_all := lw_g (lw_at lw_m3 166 rfl) rfl
theorem q700 : (Jvm.Cond.privateMethod ({ cls := "LevelScores", name := "isFigure", desc := "()Z" } : Jvm.MethodName)) ∈ lw_tbl := lw_at lw_m3 167 rfl
theorem q701 : (Jvm.Cond.instanceMethod ({ cls := "LevelScores", name := "isFigure", desc := "()Z" } : Jvm.MethodName)) ∈ lw_all := lw_g (lw_at lw_m3 168 rfl) rfl
theorem q702 : (Jvm.Cond.code ({ cls := "LevelScores", name := "isFigure", desc := "()Z" } : Jvm.MethodName) prog_1_method_28_code (1 : Nat) (Option.some Jvm.ClassFile.FieldType.boolean)) ∈ lw_all := lw_g (lw_at lw_m3 169 rfl) rfl
theorem q703 : (Jvm.Cond.constantLong "LevelScores" (212 : Nat) (-9223372036854775808 : Int64)) ∈ lw_all := lw_g (lw_at lw_m3 170 rfl) rfl
theorem q704 : (Jvm.Cond.constantLong "LevelScores" (214 : Nat) (-9223372036854775807 : Int64)) ∈ lw_all := lw_g (lw_at lw_m3 171 rfl) rfl
theorem q705 : (Jvm.Cond.constantLong "LevelScores" (216 : Nat) (10 : Int64)) ∈ lw_all := lw_g (lw_at lw_m3 172 rfl) rfl
theorem q706 : (Jvm.Cond.stringRef "LevelScores" (227 : Nat) "]") ∈ lw_tbl := lw_at lw_m3 173 rfl
theorem q707 : (Jvm.Cond.stringRef "LevelScores" (233 : Nat) "hard/") ∈ lw_tbl := lw_at lw_m3 174 rfl
theorem q708 : (Jvm.Cond.stringRef "LevelScores" (235 : Nat) "soft") ∈ lw_tbl := lw_at lw_m3 175 rfl
theorem q709 : (Jvm.Cond.stringRef "LevelScores" (240 : Nat) "medium/") ∈ lw_tbl := lw_at lw_m3 176 rfl
theorem q710 : (Jvm.Cond.methodLink "LevelScores" (245 : Nat) ({ cls := "java/lang/System", name := "arraycopy", desc := "(Ljava/lang/Object;ILjava/lang/Object;II)V" } : Jvm.MethodName)) ∈ lw_all := lw_g (lw_at lw_m3 177 rfl) rfl
theorem q712 : (Jvm.Cond.instanceMethod ({ cls := "LevelScores", name := "print", desc := "(I)I" } : Jvm.MethodName)) ∈ lw_all := lw_g (lw_at lw_m3 179 rfl) rfl
theorem q713 : (Jvm.Cond.selects "LevelScores" ({ cls := "LevelScores", name := "print", desc := "(I)I" } : Jvm.MethodName) ({ cls := "LevelScores", name := "print", desc := "(I)I" } : Jvm.MethodName)) ∈ lw_all := lw_g (lw_at lw_m3 180 rfl) rfl
theorem q714 : (Jvm.Cond.codeWith ({ cls := "LevelScores", name := "print", desc := "(I)I" } : Jvm.MethodName) prog_1_method_39_code (4 : Nat) (Option.some Jvm.ClassFile.FieldType.int) [((21 : Nat), (31 : Nat), (34 : Nat), (83 : Nat))]) ∈ lw_all := lw_g (lw_at lw_m3 181 rfl) rfl
theorem q715 : (Jvm.Cond.methodLink "LevelScores" (274 : Nat) ({ cls := "LevelScores", name := "writeScore", desc := "(LLevelScores$Score;)V" } : Jvm.MethodName)) ∈ lw_all := lw_g (lw_at lw_m3 182 rfl) rfl
theorem q716 : (Jvm.Cond.privateMethod ({ cls := "LevelScores", name := "writeScore", desc := "(LLevelScores$Score;)V" } : Jvm.MethodName)) ∈ lw_tbl := lw_at lw_m3 183 rfl
theorem q717 : (Jvm.Cond.instanceMethod ({ cls := "LevelScores", name := "writeScore", desc := "(LLevelScores$Score;)V" } : Jvm.MethodName)) ∈ lw_all := lw_g (lw_at lw_m3 184 rfl) rfl
theorem q718 : (Jvm.Cond.code ({ cls := "LevelScores", name := "writeScore", desc := "(LLevelScores$Score;)V" } : Jvm.MethodName) prog_1_method_38_code (3 : Nat) (Option.none : Option Jvm.ClassFile.FieldType)) ∈ lw_all := lw_g (lw_at lw_m3 185 rfl) rfl
theorem q720 : (Jvm.Cond.methodLink "LevelScores" (270 : Nat) ({ cls := "LevelScores", name := "writeRow", desc := "(LLevelScores$Score;II)V" } : Jvm.MethodName)) ∈ lw_all := lw_g (lw_at lw_m3 187 rfl) rfl
theorem q721 : (Jvm.Cond.privateMethod ({ cls := "LevelScores", name := "writeRow", desc := "(LLevelScores$Score;II)V" } : Jvm.MethodName)) ∈ lw_tbl := lw_at lw_m3 188 rfl
theorem q722 : (Jvm.Cond.instanceMethod ({ cls := "LevelScores", name := "writeRow", desc := "(LLevelScores$Score;II)V" } : Jvm.MethodName)) ∈ lw_all := lw_g (lw_at lw_m3 189 rfl) rfl
theorem q723 : (Jvm.Cond.code ({ cls := "LevelScores", name := "writeRow", desc := "(LLevelScores$Score;II)V" } : Jvm.MethodName) prog_1_method_37_code (5 : Nat) (Option.none : Option Jvm.ClassFile.FieldType)) ∈ lw_all := lw_g (lw_at lw_m3 190 rfl) rfl
theorem q724 : (Jvm.Cond.methodLink "LevelScores" (262 : Nat) ({ cls := "LevelScores", name := "write", desc := "(Ljava/lang/String;)V" } : Jvm.MethodName)) ∈ lw_all := lw_g (lw_at lw_m3 191 rfl) rfl
theorem q725 : (Jvm.Cond.privateMethod ({ cls := "LevelScores", name := "write", desc := "(Ljava/lang/String;)V" } : Jvm.MethodName)) ∈ lw_tbl := lw_at lw_m3 192 rfl
theorem q726 : (Jvm.Cond.instanceMethod ({ cls := "LevelScores", name := "write", desc := "(Ljava/lang/String;)V" } : Jvm.MethodName)) ∈ lw_all := lw_g (lw_at lw_m3 193 rfl) rfl
theorem q727 : (Jvm.Cond.code ({ cls := "LevelScores", name := "write", desc := "(Ljava/lang/String;)V" } : Jvm.MethodName) prog_1_method_35_code (3 : Nat) (Option.none : Option Jvm.ClassFile.FieldType)) ∈ lw_all := lw_g (lw_at lw_m3 194 rfl) rfl
theorem q728 : (Jvm.Cond.methodLink "LevelScores" (254 : Nat) ({ cls := "LevelScores", name := "write", desc := "(I)V" } : Jvm.MethodName)) ∈ lw_all := lw_g (lw_at lw_m3 195 rfl) rfl
theorem q729 : (Jvm.Cond.privateMethod ({ cls := "LevelScores", name := "write", desc := "(I)V" } : Jvm.MethodName)) ∈ lw_tbl := lw_at lw_m3 196 rfl
theorem q730 : (Jvm.Cond.instanceMethod ({ cls := "LevelScores", name := "write", desc := "(I)V" } : Jvm.MethodName)) ∈ lw_all := lw_g (lw_at lw_m3 197 rfl) rfl
theorem q731 : (Jvm.Cond.code ({ cls := "LevelScores", name := "write", desc := "(I)V" } : Jvm.MethodName) prog_1_method_34_code (2 : Nat) (Option.none : Option Jvm.ClassFile.FieldType)) ∈ lw_all := lw_g (lw_at lw_m3 198 rfl) rfl
theorem q732 : (Jvm.Cond.stringRef "LevelScores" (264 : Nat) "/") ∈ lw_tbl := lw_at lw_m3 199 rfl
theorem q733 : (Jvm.Cond.methodLink "LevelScores" (266 : Nat) ({ cls := "LevelScores", name := "write", desc := "(J)V" } : Jvm.MethodName)) ∈ lw_all := lw_g (lw_at lw_m3 200 rfl) rfl
theorem q734 : (Jvm.Cond.privateMethod ({ cls := "LevelScores", name := "write", desc := "(J)V" } : Jvm.MethodName)) ∈ lw_tbl := lw_at lw_m3 201 rfl
theorem q735 : (Jvm.Cond.instanceMethod ({ cls := "LevelScores", name := "write", desc := "(J)V" } : Jvm.MethodName)) ∈ lw_all := lw_g (lw_at lw_m3 202 rfl) rfl
theorem q736 : (Jvm.Cond.code ({ cls := "LevelScores", name := "write", desc := "(J)V" } : Jvm.MethodName) prog_1_method_36_code (7 : Nat) (Option.none : Option Jvm.ClassFile.FieldType)) ∈ lw_all := lw_g (lw_at lw_m3 203 rfl) rfl
theorem q737 : (Jvm.Cond.constantLong "LevelScores" (258 : Nat) (-10 : Int64)) ∈ lw_all := lw_g (lw_at lw_m3 204 rfl) rfl
theorem q738 : (Jvm.Cond.constantLong "LevelScores" (260 : Nat) (48 : Int64)) ∈ lw_all := lw_g (lw_at lw_m3 205 rfl) rfl
theorem q740 : (Jvm.Cond.instanceMethod ({ cls := "LevelScores", name := "out", desc := "(I)I" } : Jvm.MethodName)) ∈ lw_all := lw_g (lw_at lw_m3 207 rfl) rfl
theorem q741 : (Jvm.Cond.selects "LevelScores" ({ cls := "LevelScores", name := "out", desc := "(I)I" } : Jvm.MethodName) ({ cls := "LevelScores", name := "out", desc := "(I)I" } : Jvm.MethodName)) ∈ lw_all := lw_g (lw_at lw_m3 208 rfl) rfl
theorem q742 : (Jvm.Cond.code ({ cls := "LevelScores", name := "out", desc := "(I)I" } : Jvm.MethodName) prog_1_method_40_code (2 : Nat) (Option.some Jvm.ClassFile.FieldType.int)) ∈ lw_all := lw_g (lw_at lw_m3 209 rfl) rfl
theorem q744 : (Jvm.Cond.instanceMethod ({ cls := "LevelScores", name := "plan", desc := "(I)I" } : Jvm.MethodName)) ∈ lw_all := lw_g (lw_at lw_m3 211 rfl) rfl
theorem q745 : (Jvm.Cond.selects "LevelScores" ({ cls := "LevelScores", name := "plan", desc := "(I)I" } : Jvm.MethodName) ({ cls := "LevelScores", name := "plan", desc := "(I)I" } : Jvm.MethodName)) ∈ lw_all := lw_g (lw_at lw_m3 212 rfl) rfl
theorem q746 : (Jvm.Cond.codeWith ({ cls := "LevelScores", name := "plan", desc := "(I)I" } : Jvm.MethodName) prog_1_method_41_code (3 : Nat) (Option.some Jvm.ClassFile.FieldType.int) [((11 : Nat), (24 : Nat), (27 : Nat), (83 : Nat))]) ∈ lw_all := lw_g (lw_at lw_m3 213 rfl) rfl
theorem q748 : (Jvm.Cond.instanceMethod ({ cls := "LevelScores", name := "rule", desc := "(I)I" } : Jvm.MethodName)) ∈ lw_all := lw_g (lw_at lw_m3 215 rfl) rfl
theorem q749 : (Jvm.Cond.selects "LevelScores" ({ cls := "LevelScores", name := "rule", desc := "(I)I" } : Jvm.MethodName) ({ cls := "LevelScores", name := "rule", desc := "(I)I" } : Jvm.MethodName)) ∈ lw_all := lw_g (lw_at lw_m3 216 rfl) rfl
theorem q750 : (Jvm.Cond.codeWith ({ cls := "LevelScores", name := "rule", desc := "(I)I" } : Jvm.MethodName) prog_1_method_42_code (4 : Nat) (Option.some Jvm.ClassFile.FieldType.int) [((30 : Nat), (38 : Nat), (41 : Nat), (83 : Nat)), ((30 : Nat), (38 : Nat), (45 : Nat), (145 : Nat))]) ∈ lw_all := lw_g (lw_at lw_m3 217 rfl) rfl
theorem q752 : (Jvm.Cond.instanceMethod ({ cls := "LevelScores", name := "count", desc := "(II)I" } : Jvm.MethodName)) ∈ lw_all := lw_g (lw_at lw_m3 219 rfl) rfl
theorem q753 : (Jvm.Cond.selects "LevelScores" ({ cls := "LevelScores", name := "count", desc := "(II)I" } : Jvm.MethodName) ({ cls := "LevelScores", name := "count", desc := "(II)I" } : Jvm.MethodName)) ∈ lw_all := lw_g (lw_at lw_m3 220 rfl) rfl
theorem q754 : (Jvm.Cond.code ({ cls := "LevelScores", name := "count", desc := "(II)I" } : Jvm.MethodName) prog_1_method_46_code (4 : Nat) (Option.some Jvm.ClassFile.FieldType.int)) ∈ lw_all := lw_g (lw_at lw_m3 221 rfl) rfl
theorem q755 : (Jvm.Cond.methodLink "LevelScores" (287 : Nat) ({ cls := "LevelScores", name := "isRule", desc := "(I)Z" } : Jvm.MethodName)) ∈ lw_all := lw_g (lw_at lw_m3 222 rfl) rfl
theorem q756 : (Jvm.Cond.privateMethod ({ cls := "LevelScores", name := "isRule", desc := "(I)Z" } : Jvm.MethodName)) ∈ lw_tbl := lw_at lw_m3 223 rfl
theorem q757 : (Jvm.Cond.instanceMethod ({ cls := "LevelScores", name := "isRule", desc := "(I)Z" } : Jvm.MethodName)) ∈ lw_all := lw_g (lw_at lw_m3 224 rfl) rfl
theorem q758 : (Jvm.Cond.code ({ cls := "LevelScores", name := "isRule", desc := "(I)Z" } : Jvm.MethodName) prog_1_method_43_code (2 : Nat) (Option.some Jvm.ClassFile.FieldType.boolean)) ∈ lw_all := lw_g (lw_at lw_m3 225 rfl) rfl
theorem q759 : (Jvm.Cond.constant "LevelScores" (290 : Nat) (1000000 : Int32)) ∈ lw_all := lw_g (lw_at lw_m3 226 rfl) rfl
theorem q760 : (Jvm.Cond.methodLink "LevelScores" (291 : Nat) ({ cls := "LevelScores", name := "isNarrow", desc := "(I)Z" } : Jvm.MethodName)) ∈ lw_all := lw_g (lw_at lw_m3 227 rfl) rfl
theorem q761 : (Jvm.Cond.privateMethod ({ cls := "LevelScores", name := "isNarrow", desc := "(I)Z" } : Jvm.MethodName)) ∈ lw_tbl := lw_at lw_m3 228 rfl
theorem q762 : (Jvm.Cond.instanceMethod ({ cls := "LevelScores", name := "isNarrow", desc := "(I)Z" } : Jvm.MethodName)) ∈ lw_all := lw_g (lw_at lw_m3 229 rfl) rfl
theorem q763 : (Jvm.Cond.codeWith ({ cls := "LevelScores", name := "isNarrow", desc := "(I)Z" } : Jvm.MethodName) prog_1_method_45_code (4 : Nat) (Option.some Jvm.ClassFile.FieldType.boolean) [((0 : Nat), (19 : Nat), (22 : Nat), (121 : Nat))]) ∈ lw_all := lw_g (lw_at lw_m3 230 rfl) rfl
theorem q764 : (Jvm.Cond.methodLink "LevelScores" (283 : Nat) ({ cls := "LevelScores", name := "summed", desc := "(II)LLevelScores$Score;" } : Jvm.MethodName)) ∈ lw_all := lw_g (lw_at lw_m3 231 rfl) rfl
theorem q765 : (Jvm.Cond.privateMethod ({ cls := "LevelScores", name := "summed", desc := "(II)LLevelScores$Score;" } : Jvm.MethodName)) ∈ lw_tbl := lw_at lw_m3 232 rfl
theorem q766 : (Jvm.Cond.instanceMethod ({ cls := "LevelScores", name := "summed", desc := "(II)LLevelScores$Score;" } : Jvm.MethodName)) ∈ lw_all := lw_g (lw_at lw_m3 233 rfl) rfl
theorem q767 : (Jvm.Cond.code ({ cls := "LevelScores", name := "summed", desc := "(II)LLevelScores$Score;" } : Jvm.MethodName) prog_1_method_44_code (6 : Nat) (Option.some (Jvm.ClassFile.FieldType.object "LevelScores$Score"))) ∈ lw_all := lw_g (lw_at lw_m3 234 rfl) rfl
theorem q769 : (Jvm.Cond.instanceMethod ({ cls := "LevelScores", name := "weight", desc := "(II)I" } : Jvm.MethodName)) ∈ lw_all := lw_g (lw_at lw_m3 236 rfl) rfl
theorem q770 : (Jvm.Cond.selects "LevelScores" ({ cls := "LevelScores", name := "weight", desc := "(II)I" } : Jvm.MethodName) ({ cls := "LevelScores", name := "weight", desc := "(II)I" } : Jvm.MethodName)) ∈ lw_all := lw_g (lw_at lw_m3 237 rfl) rfl
theorem q771 : (Jvm.Cond.codeWith ({ cls := "LevelScores", name := "weight", desc := "(II)I" } : Jvm.MethodName) prog_1_method_47_code (5 : Nat) (Option.some Jvm.ClassFile.FieldType.int) [((26 : Nat), (34 : Nat), (37 : Nat), (83 : Nat)), ((26 : Nat), (34 : Nat), (42 : Nat), (145 : Nat))]) ∈ lw_all := lw_g (lw_at lw_m3 238 rfl) rfl
theorem q773 : (Jvm.Cond.instanceMethod ({ cls := "LevelScores", name := "total", desc := "(I)I" } : Jvm.MethodName)) ∈ lw_all := lw_g (lw_at lw_m4 0 rfl) rfl
theorem q774 : (Jvm.Cond.selects "LevelScores" ({ cls := "LevelScores", name := "total", desc := "(I)I" } : Jvm.MethodName) ({ cls := "LevelScores", name := "total", desc := "(I)I" } : Jvm.MethodName)) ∈ lw_all := lw_g (lw_at lw_m4 1 rfl) rfl
theorem q775 : (Jvm.Cond.code ({ cls := "LevelScores", name := "total", desc := "(I)I" } : Jvm.MethodName) prog_1_method_48_code (2 : Nat) (Option.some Jvm.ClassFile.FieldType.int)) ∈ lw_all := lw_g (lw_at lw_m4 2 rfl) rfl
theorem q777 : (Jvm.Cond.instanceMethod ({ cls := "LevelScores", name := "safe", desc := "(I)I" } : Jvm.MethodName)) ∈ lw_all := lw_g (lw_at lw_m4 4 rfl) rfl
theorem q778 : (Jvm.Cond.selects "LevelScores" ({ cls := "LevelScores", name := "safe", desc := "(I)I" } : Jvm.MethodName) ({ cls := "LevelScores", name := "safe", desc := "(I)I" } : Jvm.MethodName)) ∈ lw_all := lw_g (lw_at lw_m4 5 rfl) rfl
theorem q779 : (Jvm.Cond.codeWith ({ cls := "LevelScores", name := "safe", desc := "(I)I" } : Jvm.MethodName) prog_1_method_49_code (7 : Nat) (Option.some Jvm.ClassFile.FieldType.int) [((14 : Nat), (121 : Nat), (124 : Nat), (121 : Nat))]) ∈ lw_all := lw_g (lw_at lw_m4 6 rfl) rfl
theorem q781 : (Jvm.Cond.instanceMethod ({ cls := "LevelScores", name := "keep", desc := "(I)I" } : Jvm.MethodName)) ∈ lw_all := lw_g (lw_at lw_m4 8 rfl) rfl
theorem q782 : (Jvm.Cond.selects "LevelScores" ({ cls := "LevelScores", name := "keep", desc := "(I)I" } : Jvm.MethodName) ({ cls := "LevelScores", name := "keep", desc := "(I)I" } : Jvm.MethodName)) ∈ lw_all := lw_g (lw_at lw_m4 9 rfl) rfl
theorem q783 : (Jvm.Cond.codeWith ({ cls := "LevelScores", name := "keep", desc := "(I)I" } : Jvm.MethodName) prog_1_method_50_code (4 : Nat) (Option.some Jvm.ClassFile.FieldType.int) [((18 : Nat), (26 : Nat), (29 : Nat), (83 : Nat)), ((18 : Nat), (26 : Nat), (33 : Nat), (145 : Nat))]) ∈ lw_all := lw_g (lw_at lw_m4 10 rfl) rfl
theorem q785 : (Jvm.Cond.instanceMethod ({ cls := "LevelScores", name := "kept", desc := "(I)I" } : Jvm.MethodName)) ∈ lw_all := lw_g (lw_at lw_m4 12 rfl) rfl
theorem q786 : (Jvm.Cond.selects "LevelScores" ({ cls := "LevelScores", name := "kept", desc := "(I)I" } : Jvm.MethodName) ({ cls := "LevelScores", name := "kept", desc := "(I)I" } : Jvm.MethodName)) ∈ lw_all := lw_g (lw_at lw_m4 13 rfl) rfl
theorem q787 : (Jvm.Cond.code ({ cls := "LevelScores", name := "kept", desc := "(I)I" } : Jvm.MethodName) prog_1_method_51_code (2 : Nat) (Option.some Jvm.ClassFile.FieldType.int)) ∈ lw_all := lw_g (lw_at lw_m4 14 rfl) rfl
theorem q789 : (Jvm.Cond.instanceMethod ({ cls := "LevelScores", name := "many", desc := "(I)I" } : Jvm.MethodName)) ∈ lw_all := lw_g (lw_at lw_m4 16 rfl) rfl
theorem q790 : (Jvm.Cond.selects "LevelScores" ({ cls := "LevelScores", name := "many", desc := "(I)I" } : Jvm.MethodName) ({ cls := "LevelScores", name := "many", desc := "(I)I" } : Jvm.MethodName)) ∈ lw_all := lw_g (lw_at lw_m4 17 rfl) rfl
theorem q791 : (Jvm.Cond.code ({ cls := "LevelScores", name := "many", desc := "(I)I" } : Jvm.MethodName) prog_1_method_52_code (2 : Nat) (Option.some Jvm.ClassFile.FieldType.int)) ∈ lw_all := lw_g (lw_at lw_m4 18 rfl) rfl
theorem q793 : (Jvm.Cond.instanceMethod ({ cls := "LevelScores", name := "drop", desc := "()I" } : Jvm.MethodName)) ∈ lw_all := lw_g (lw_at lw_m4 20 rfl) rfl
theorem q794 : (Jvm.Cond.selects "LevelScores" ({ cls := "LevelScores", name := "drop", desc := "()I" } : Jvm.MethodName) ({ cls := "LevelScores", name := "drop", desc := "()I" } : Jvm.MethodName)) ∈ lw_all := lw_g (lw_at lw_m4 21 rfl) rfl
theorem q795 : (Jvm.Cond.code ({ cls := "LevelScores", name := "drop", desc := "()I" } : Jvm.MethodName) prog_1_method_53_code (1 : Nat) (Option.some Jvm.ClassFile.FieldType.int)) ∈ lw_all := lw_g (lw_at lw_m4 22 rfl) rfl
theorem q802 : (Jvm.Cond.instanceMethod ({ cls := "LevelScores", name := "at", desc := "(II)J" } : Jvm.MethodName)) ∈ lw_all := lw_g (lw_at lw_m4 29 rfl) rfl
theorem q803 : (Jvm.Cond.selects "LevelScores" ({ cls := "LevelScores", name := "at", desc := "(II)J" } : Jvm.MethodName) ({ cls := "LevelScores", name := "at", desc := "(II)J" } : Jvm.MethodName)) ∈ lw_all := lw_g (lw_at lw_m4 30 rfl) rfl
theorem q804 : (Jvm.Cond.code ({ cls := "LevelScores", name := "at", desc := "(II)J" } : Jvm.MethodName) prog_1_method_10_code (4 : Nat) (Option.some Jvm.ClassFile.FieldType.long)) ∈ lw_all := lw_g (lw_at lw_m4 31 rfl) rfl
theorem q805 : (Jvm.Cond.classLink "LevelScores" (87 : Nat) "java/lang/IndexOutOfBoundsException") ∈ lw_all := lw_g (lw_at lw_m4 32 rfl) rfl
theorem q814 : (Jvm.Cond.methodLink "LevelScores" (89 : Nat) ({ cls := "java/lang/IndexOutOfBoundsException", name := "<init>", desc := "()V" } : Jvm.MethodName)) ∈ lw_all := lw_g (lw_at lw_m4 41 rfl) rfl
theorem q820 : (Jvm.Cond.classLink "LevelScores" (90 : Nat) "java/util/NoSuchElementException") ∈ lw_all := lw_g (lw_at lw_m4 47 rfl) rfl
theorem q829 : (Jvm.Cond.methodLink "LevelScores" (92 : Nat) ({ cls := "java/util/NoSuchElementException", name := "<init>", desc := "()V" } : Jvm.MethodName)) ∈ lw_all := lw_g (lw_at lw_m4 56 rfl) rfl
theorem q1144 : (Jvm.Cond.castable "LevelScores" "java/lang/Object") ∈ lw_tbl := lw_at lw_m5 131 rfl
theorem in_X1 : ∀ w ∈ wsX10, w ∈ lw_all := lw_in wsX10 [120, 122, 124, 126, 128, 130, 132, 134, 136, 138, 140, 142, 144, 146, 148, 150, 152] (by decide +kernel) (by decide +kernel)
