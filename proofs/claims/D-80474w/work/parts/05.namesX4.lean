/-! LevelScoresModel -/
set_option maxRecDepth 100000
def RX4 : String := "LevelScoresModel"
def TX4 : u_T := fun k => match k with
  | 0 => ("LevelScoresModel", "scores", "I", false)
  | 1 => ("LevelScoresModel", "shapes", "[I", true)
  | 2 => ("LevelScoresModel", "hards", "[I", true)
  | 3 => ("LevelScoresModel", "sizes", "[I", true)
  | 4 => ("LevelScoresModel", "levels", "[J", true)
  | 5 => ("LevelScoresModel", "planShape", "I", false)
  | 6 => ("LevelScoresModel", "planHard", "I", false)
  | 7 => ("LevelScoresModel", "planSize", "I", false)
  | 8 => ("LevelScoresModel", "rules", "I", false)
  | 9 => ("LevelScoresModel", "weights", "[J", true)
  | 10 => ("LevelScoresModel", "counts", "[I", true)
  | 11 => ("LevelScoresModel", "kept", "I", false)
  | 12 => ("LevelScoresModel", "keeps", "[J", true)
  | 13 => ("LevelScoresModel", "tapeSize", "I", false)
  | 14 => ("LevelScoresModel", "tape", "[I", true)
  | 15 => ("LevelScoresModel", "outSize", "I", false)
  | 16 => ("LevelScoresModel", "out", "[I", true)
  | 17 => ("LevelScoresModel", "thrown", "I", false)
  | 18 => ("LevelScoresModel", "high", "J", false)
  | 19 => ("LevelScoresModel", "low", "J", false)
  | 20 => ("LevelScoresModel", "place", "I", false)
  | 21 => ("LevelScoresModel", "stuck", "Z", false)
  | 22 => ("LevelScoresModel", "read", "J", false)
  | _ => ("LevelScoresModel", "had", "[J", true)
def tyX4 : Nat → FieldType := fun k => match k with
  | 0 => .int
  | 1 => .array .int
  | 2 => .array .int
  | 3 => .array .int
  | 4 => .array .long
  | 5 => .int
  | 6 => .int
  | 7 => .int
  | 8 => .int
  | 9 => .array .long
  | 10 => .array .int
  | 11 => .int
  | 12 => .array .long
  | 13 => .int
  | 14 => .array .int
  | 15 => .int
  | 16 => .array .int
  | 17 => .int
  | 18 => .long
  | 19 => .long
  | 20 => .int
  | 21 => .boolean
  | 22 => .long
  | _ => .array .long
abbrev wsX40 : List Cond := u_ws RX4 TX4 24
set_option maxRecDepth 100000 in
theorem nmX4 : ∀ a, a < 24 → ∀ b, b < 24 → a ≠ b → (TX4 a).2.1 ≠ (TX4 b).2.1 := by decide +kernel
set_option maxRecDepth 100000 in
theorem tyX4_ok : ∀ k, k < 24 → parseFieldDescriptor (TX4 k).2.2.1 = some (tyX4 k) := by decide +kernel
abbrev cX4_init : ByteArray := prog_9_method_1_code
def yX4_init : MethodName := ⟨RX4, "<init>", "()V"⟩
def dkwX4_init_4 : List UInt8 := [181, 0, 42, 177]
abbrev dktX4_init_4 : List UInt8 := dkwX4_init_4 ++ []
def dkwX4_init_3 : List UInt8 := [17, 1, 44, 188, 10, 181, 0, 36, 42, 17, 1, 144, 188, 10, 181, 0, 39, 42, 16, 12, 188, 11]
abbrev dktX4_init_3 : List UInt8 := dkwX4_init_3 ++ dktX4_init_4
def dkwX4_init_2 : List UInt8 := [188, 11, 181, 0, 27, 42, 16, 12, 188, 10, 181, 0, 30, 42, 16, 72, 188, 11, 181, 0, 33, 42]
abbrev dktX4_init_2 : List UInt8 := dkwX4_init_2 ++ dktX4_init_3
def dkwX4_init_1 : List UInt8 := [188, 10, 181, 0, 16, 42, 17, 2, 220, 188, 11, 181, 0, 19, 42, 4, 181, 0, 23, 42, 17, 0, 144]
abbrev dktX4_init_1 : List UInt8 := dkwX4_init_1 ++ dktX4_init_2
def dkwX4_init_0 : List UInt8 := [42, 183, 0, 1, 42, 16, 61, 188, 10, 181, 0, 7, 42, 16, 61, 188, 10, 181, 0, 13, 42, 16, 61]
abbrev dktX4_init_0 : List UInt8 := dkwX4_init_0 ++ dktX4_init_1
theorem dksX4_init_0 : cX4_init.data.toList.drop 0 = dktX4_init_0 := by decide +kernel
theorem dksX4_init_1 : cX4_init.data.toList.drop 23 = dktX4_init_1 := dk_seg dksX4_init_0 23 rfl rfl
theorem dksX4_init_2 : cX4_init.data.toList.drop 46 = dktX4_init_2 := dk_seg dksX4_init_1 23 rfl rfl
theorem dksX4_init_3 : cX4_init.data.toList.drop 68 = dktX4_init_3 := dk_seg dksX4_init_2 22 rfl rfl
theorem dksX4_init_4 : cX4_init.data.toList.drop 90 = dktX4_init_4 := dk_seg dksX4_init_3 22 rfl rfl
theorem dX4_init_0 : decode cX4_init 0 = .ok (.aload_n 0, 1) := dk_42 (dk_at dksX4_init_0 0 rfl rfl)
theorem dX4_init_1 : decode cX4_init 1 = .ok (.invokespecial 1, 3) := dk_183 0 1 (dk_at dksX4_init_0 1 rfl rfl)
theorem dX4_init_4 : decode cX4_init 4 = .ok (.aload_n 0, 1) := dk_42 (dk_at dksX4_init_0 4 rfl rfl)
theorem dX4_init_5 : decode cX4_init 5 = .ok (.bipush 61, 2) := dk_16 61 (dk_at dksX4_init_0 5 rfl rfl)
theorem dX4_init_7 : decode cX4_init 7 = .ok (.newarray .int, 2) := dk_188_10 (dk_at dksX4_init_0 7 rfl rfl)
theorem dX4_init_9 : decode cX4_init 9 = .ok (.putfield 7, 3) := dk_181 0 7 (dk_at dksX4_init_0 9 rfl rfl)
theorem dX4_init_12 : decode cX4_init 12 = .ok (.aload_n 0, 1) := dk_42 (dk_at dksX4_init_0 12 rfl rfl)
theorem dX4_init_13 : decode cX4_init 13 = .ok (.bipush 61, 2) := dk_16 61 (dk_at dksX4_init_0 13 rfl rfl)
theorem dX4_init_15 : decode cX4_init 15 = .ok (.newarray .int, 2) := dk_188_10 (dk_at dksX4_init_0 15 rfl rfl)
theorem dX4_init_17 : decode cX4_init 17 = .ok (.putfield 13, 3) := dk_181 0 13 (dk_at dksX4_init_0 17 rfl rfl)
theorem dX4_init_20 : decode cX4_init 20 = .ok (.aload_n 0, 1) := dk_42 (dk_at dksX4_init_0 20 rfl rfl)
theorem dX4_init_21 : decode cX4_init 21 = .ok (.bipush 61, 2) := dk_16 61 (dk_at dksX4_init_0 21 rfl rfl)
theorem dX4_init_23 : decode cX4_init 23 = .ok (.newarray .int, 2) := dk_188_10 (dk_at dksX4_init_1 0 rfl rfl)
theorem dX4_init_25 : decode cX4_init 25 = .ok (.putfield 16, 3) := dk_181 0 16 (dk_at dksX4_init_1 2 rfl rfl)
theorem dX4_init_28 : decode cX4_init 28 = .ok (.aload_n 0, 1) := dk_42 (dk_at dksX4_init_1 5 rfl rfl)
theorem dX4_init_29 : decode cX4_init 29 = .ok (.sipush 732, 3) := dk_17 2 220 (dk_at dksX4_init_1 6 rfl rfl)
theorem dX4_init_32 : decode cX4_init 32 = .ok (.newarray .long, 2) := dk_188_11 (dk_at dksX4_init_1 9 rfl rfl)
theorem dX4_init_34 : decode cX4_init 34 = .ok (.putfield 19, 3) := dk_181 0 19 (dk_at dksX4_init_1 11 rfl rfl)
theorem dX4_init_37 : decode cX4_init 37 = .ok (.aload_n 0, 1) := dk_42 (dk_at dksX4_init_1 14 rfl rfl)
theorem dX4_init_38 : decode cX4_init 38 = .ok (.iconst 1, 1) := dk_4 (dk_at dksX4_init_1 15 rfl rfl)
theorem dX4_init_39 : decode cX4_init 39 = .ok (.putfield 23, 3) := dk_181 0 23 (dk_at dksX4_init_1 16 rfl rfl)
theorem dX4_init_42 : decode cX4_init 42 = .ok (.aload_n 0, 1) := dk_42 (dk_at dksX4_init_1 19 rfl rfl)
theorem dX4_init_43 : decode cX4_init 43 = .ok (.sipush 144, 3) := dk_17 0 144 (dk_at dksX4_init_1 20 rfl rfl)
theorem dX4_init_46 : decode cX4_init 46 = .ok (.newarray .long, 2) := dk_188_11 (dk_at dksX4_init_2 0 rfl rfl)
theorem dX4_init_48 : decode cX4_init 48 = .ok (.putfield 27, 3) := dk_181 0 27 (dk_at dksX4_init_2 2 rfl rfl)
theorem dX4_init_51 : decode cX4_init 51 = .ok (.aload_n 0, 1) := dk_42 (dk_at dksX4_init_2 5 rfl rfl)
theorem dX4_init_52 : decode cX4_init 52 = .ok (.bipush 12, 2) := dk_16 12 (dk_at dksX4_init_2 6 rfl rfl)
theorem dX4_init_54 : decode cX4_init 54 = .ok (.newarray .int, 2) := dk_188_10 (dk_at dksX4_init_2 8 rfl rfl)
theorem dX4_init_56 : decode cX4_init 56 = .ok (.putfield 30, 3) := dk_181 0 30 (dk_at dksX4_init_2 10 rfl rfl)
theorem dX4_init_59 : decode cX4_init 59 = .ok (.aload_n 0, 1) := dk_42 (dk_at dksX4_init_2 13 rfl rfl)
theorem dX4_init_60 : decode cX4_init 60 = .ok (.bipush 72, 2) := dk_16 72 (dk_at dksX4_init_2 14 rfl rfl)
theorem dX4_init_62 : decode cX4_init 62 = .ok (.newarray .long, 2) := dk_188_11 (dk_at dksX4_init_2 16 rfl rfl)
theorem dX4_init_64 : decode cX4_init 64 = .ok (.putfield 33, 3) := dk_181 0 33 (dk_at dksX4_init_2 18 rfl rfl)
theorem dX4_init_67 : decode cX4_init 67 = .ok (.aload_n 0, 1) := dk_42 (dk_at dksX4_init_2 21 rfl rfl)
theorem dX4_init_68 : decode cX4_init 68 = .ok (.sipush 300, 3) := dk_17 1 44 (dk_at dksX4_init_3 0 rfl rfl)
theorem dX4_init_71 : decode cX4_init 71 = .ok (.newarray .int, 2) := dk_188_10 (dk_at dksX4_init_3 3 rfl rfl)
theorem dX4_init_73 : decode cX4_init 73 = .ok (.putfield 36, 3) := dk_181 0 36 (dk_at dksX4_init_3 5 rfl rfl)
theorem dX4_init_76 : decode cX4_init 76 = .ok (.aload_n 0, 1) := dk_42 (dk_at dksX4_init_3 8 rfl rfl)
theorem dX4_init_77 : decode cX4_init 77 = .ok (.sipush 400, 3) := dk_17 1 144 (dk_at dksX4_init_3 9 rfl rfl)
theorem dX4_init_80 : decode cX4_init 80 = .ok (.newarray .int, 2) := dk_188_10 (dk_at dksX4_init_3 12 rfl rfl)
theorem dX4_init_82 : decode cX4_init 82 = .ok (.putfield 39, 3) := dk_181 0 39 (dk_at dksX4_init_3 14 rfl rfl)
theorem dX4_init_85 : decode cX4_init 85 = .ok (.aload_n 0, 1) := dk_42 (dk_at dksX4_init_3 17 rfl rfl)
theorem dX4_init_86 : decode cX4_init 86 = .ok (.bipush 12, 2) := dk_16 12 (dk_at dksX4_init_3 18 rfl rfl)
theorem dX4_init_88 : decode cX4_init 88 = .ok (.newarray .long, 2) := dk_188_11 (dk_at dksX4_init_3 20 rfl rfl)
theorem dX4_init_90 : decode cX4_init 90 = .ok (.putfield 42, 3) := dk_181 0 42 (dk_at dksX4_init_4 0 rfl rfl)
theorem dX4_init_93 : decode cX4_init 93 = .ok (.return_, 1) := dk_177 (dk_at dksX4_init_4 3 rfl rfl)
abbrev cX4_make : ByteArray := prog_9_method_9_code
def yX4_make : MethodName := ⟨RX4, "make", "(III)I"⟩
def dkwX4_make_4 : List UInt8 := [4, 96, 167, 0, 6, 28, 29, 96, 182, 0, 60, 42, 182, 0, 64, 172]
abbrev dktX4_make_4 : List UInt8 := dkwX4_make_4 ++ []
def dkwX4_make_3 : List UInt8 := [27, 154, 0, 7, 3, 167, 0, 13, 27, 6, 162, 0, 7, 4, 167, 0, 4, 28, 27, 6, 162, 0, 9, 27]
abbrev dktX4_make_3 : List UInt8 := dkwX4_make_3 ++ dktX4_make_4
def dkwX4_make_2 : List UInt8 := [160, 0, 6, 16, 252, 172, 27, 6, 160, 0, 14, 28, 155, 0, 7, 29, 156, 0, 6, 16, 242, 172, 42, 27]
abbrev dktX4_make_2 : List UInt8 := dkwX4_make_2 ++ dktX4_make_3
def dkwX4_make_1 : List UInt8 := [16, 6, 163, 0, 11, 28, 154, 0, 10, 29, 154, 0, 6, 16, 253, 172, 42, 180, 0, 45, 16, 60]
abbrev dktX4_make_1 : List UInt8 := dkwX4_make_1 ++ dktX4_make_2
def dkwX4_make_0 : List UInt8 := [27, 133, 9, 20, 0, 58, 184, 0, 48, 153, 0, 28, 27, 6, 160, 0, 26, 28, 16, 6, 163, 0, 17, 29]
abbrev dktX4_make_0 : List UInt8 := dkwX4_make_0 ++ dktX4_make_1
theorem dksX4_make_0 : cX4_make.data.toList.drop 0 = dktX4_make_0 := by decide +kernel
theorem dksX4_make_1 : cX4_make.data.toList.drop 24 = dktX4_make_1 := dk_seg dksX4_make_0 24 rfl rfl
theorem dksX4_make_2 : cX4_make.data.toList.drop 46 = dktX4_make_2 := dk_seg dksX4_make_1 22 rfl rfl
theorem dksX4_make_3 : cX4_make.data.toList.drop 70 = dktX4_make_3 := dk_seg dksX4_make_2 24 rfl rfl
theorem dksX4_make_4 : cX4_make.data.toList.drop 94 = dktX4_make_4 := dk_seg dksX4_make_3 24 rfl rfl
theorem dX4_make_0 : decode cX4_make 0 = .ok (.iload_n 1, 1) := dk_27 (dk_at dksX4_make_0 0 rfl rfl)
theorem dX4_make_1 : decode cX4_make 1 = .ok (.i2l, 1) := dk_133 (dk_at dksX4_make_0 1 rfl rfl)
theorem dX4_make_2 : decode cX4_make 2 = .ok (.lconst 0, 1) := dk_9 (dk_at dksX4_make_0 2 rfl rfl)
theorem dX4_make_3 : decode cX4_make 3 = .ok (.ldc2_w 58, 3) := dk_20 0 58 (dk_at dksX4_make_0 3 rfl rfl)
theorem dX4_make_6 : decode cX4_make 6 = .ok (.invokestatic 48, 3) := dk_184 0 48 (dk_at dksX4_make_0 6 rfl rfl)
theorem dX4_make_9 : decode cX4_make 9 = .ok (.ifCond .eq 28, 3) := dk_153 0 28 (dk_at dksX4_make_0 9 rfl rfl)
theorem dX4_make_12 : decode cX4_make 12 = .ok (.iload_n 1, 1) := dk_27 (dk_at dksX4_make_0 12 rfl rfl)
theorem dX4_make_13 : decode cX4_make 13 = .ok (.iconst 3, 1) := dk_6 (dk_at dksX4_make_0 13 rfl rfl)
theorem dX4_make_14 : decode cX4_make 14 = .ok (.if_icmp .ne 26, 3) := dk_160 0 26 (dk_at dksX4_make_0 14 rfl rfl)
theorem dX4_make_17 : decode cX4_make 17 = .ok (.iload_n 2, 1) := dk_28 (dk_at dksX4_make_0 17 rfl rfl)
theorem dX4_make_18 : decode cX4_make 18 = .ok (.bipush 6, 2) := dk_16 6 (dk_at dksX4_make_0 18 rfl rfl)
theorem dX4_make_20 : decode cX4_make 20 = .ok (.if_icmp .gt 17, 3) := dk_163 0 17 (dk_at dksX4_make_0 20 rfl rfl)
theorem dX4_make_23 : decode cX4_make 23 = .ok (.iload_n 3, 1) := dk_29 (dk_at dksX4_make_0 23 rfl rfl)
theorem dX4_make_24 : decode cX4_make 24 = .ok (.bipush 6, 2) := dk_16 6 (dk_at dksX4_make_1 0 rfl rfl)
theorem dX4_make_26 : decode cX4_make 26 = .ok (.if_icmp .gt 11, 3) := dk_163 0 11 (dk_at dksX4_make_1 2 rfl rfl)
theorem dX4_make_29 : decode cX4_make 29 = .ok (.iload_n 2, 1) := dk_28 (dk_at dksX4_make_1 5 rfl rfl)
theorem dX4_make_30 : decode cX4_make 30 = .ok (.ifCond .ne 10, 3) := dk_154 0 10 (dk_at dksX4_make_1 6 rfl rfl)
theorem dX4_make_33 : decode cX4_make 33 = .ok (.iload_n 3, 1) := dk_29 (dk_at dksX4_make_1 9 rfl rfl)
theorem dX4_make_34 : decode cX4_make 34 = .ok (.ifCond .ne 6, 3) := dk_154 0 6 (dk_at dksX4_make_1 10 rfl rfl)
theorem dX4_make_37 : decode cX4_make 37 = .ok (.bipush (-3), 2) := dk_16 253 (dk_at dksX4_make_1 13 rfl rfl)
theorem dX4_make_39 : decode cX4_make 39 = .ok (.ireturn, 1) := dk_172 (dk_at dksX4_make_1 15 rfl rfl)
theorem dX4_make_40 : decode cX4_make 40 = .ok (.aload_n 0, 1) := dk_42 (dk_at dksX4_make_1 16 rfl rfl)
theorem dX4_make_41 : decode cX4_make 41 = .ok (.getfield 45, 3) := dk_180 0 45 (dk_at dksX4_make_1 17 rfl rfl)
theorem dX4_make_44 : decode cX4_make 44 = .ok (.bipush 60, 2) := dk_16 60 (dk_at dksX4_make_1 20 rfl rfl)
theorem dX4_make_46 : decode cX4_make 46 = .ok (.if_icmp .ne 6, 3) := dk_160 0 6 (dk_at dksX4_make_2 0 rfl rfl)
theorem dX4_make_49 : decode cX4_make 49 = .ok (.bipush (-4), 2) := dk_16 252 (dk_at dksX4_make_2 3 rfl rfl)
theorem dX4_make_51 : decode cX4_make 51 = .ok (.ireturn, 1) := dk_172 (dk_at dksX4_make_2 5 rfl rfl)
theorem dX4_make_52 : decode cX4_make 52 = .ok (.iload_n 1, 1) := dk_27 (dk_at dksX4_make_2 6 rfl rfl)
theorem dX4_make_53 : decode cX4_make 53 = .ok (.iconst 3, 1) := dk_6 (dk_at dksX4_make_2 7 rfl rfl)
theorem dX4_make_54 : decode cX4_make 54 = .ok (.if_icmp .ne 14, 3) := dk_160 0 14 (dk_at dksX4_make_2 8 rfl rfl)
theorem dX4_make_57 : decode cX4_make 57 = .ok (.iload_n 2, 1) := dk_28 (dk_at dksX4_make_2 11 rfl rfl)
theorem dX4_make_58 : decode cX4_make 58 = .ok (.ifCond .lt 7, 3) := dk_155 0 7 (dk_at dksX4_make_2 12 rfl rfl)
theorem dX4_make_61 : decode cX4_make 61 = .ok (.iload_n 3, 1) := dk_29 (dk_at dksX4_make_2 15 rfl rfl)
theorem dX4_make_62 : decode cX4_make 62 = .ok (.ifCond .ge 6, 3) := dk_156 0 6 (dk_at dksX4_make_2 16 rfl rfl)
theorem dX4_make_65 : decode cX4_make 65 = .ok (.bipush (-14), 2) := dk_16 242 (dk_at dksX4_make_2 19 rfl rfl)
theorem dX4_make_67 : decode cX4_make 67 = .ok (.ireturn, 1) := dk_172 (dk_at dksX4_make_2 21 rfl rfl)
theorem dX4_make_68 : decode cX4_make 68 = .ok (.aload_n 0, 1) := dk_42 (dk_at dksX4_make_2 22 rfl rfl)
theorem dX4_make_69 : decode cX4_make 69 = .ok (.iload_n 1, 1) := dk_27 (dk_at dksX4_make_2 23 rfl rfl)
theorem dX4_make_70 : decode cX4_make 70 = .ok (.iload_n 1, 1) := dk_27 (dk_at dksX4_make_3 0 rfl rfl)
theorem dX4_make_71 : decode cX4_make 71 = .ok (.ifCond .ne 7, 3) := dk_154 0 7 (dk_at dksX4_make_3 1 rfl rfl)
theorem dX4_make_74 : decode cX4_make 74 = .ok (.iconst 0, 1) := dk_3 (dk_at dksX4_make_3 4 rfl rfl)
theorem dX4_make_75 : decode cX4_make 75 = .ok (.goto 13, 3) := dk_167 0 13 (dk_at dksX4_make_3 5 rfl rfl)
theorem dX4_make_78 : decode cX4_make 78 = .ok (.iload_n 1, 1) := dk_27 (dk_at dksX4_make_3 8 rfl rfl)
theorem dX4_make_79 : decode cX4_make 79 = .ok (.iconst 3, 1) := dk_6 (dk_at dksX4_make_3 9 rfl rfl)
theorem dX4_make_80 : decode cX4_make 80 = .ok (.if_icmp .ge 7, 3) := dk_162 0 7 (dk_at dksX4_make_3 10 rfl rfl)
theorem dX4_make_83 : decode cX4_make 83 = .ok (.iconst 1, 1) := dk_4 (dk_at dksX4_make_3 13 rfl rfl)
theorem dX4_make_84 : decode cX4_make 84 = .ok (.goto 4, 3) := dk_167 0 4 (dk_at dksX4_make_3 14 rfl rfl)
theorem dX4_make_87 : decode cX4_make 87 = .ok (.iload_n 2, 1) := dk_28 (dk_at dksX4_make_3 17 rfl rfl)
theorem dX4_make_88 : decode cX4_make 88 = .ok (.iload_n 1, 1) := dk_27 (dk_at dksX4_make_3 18 rfl rfl)
theorem dX4_make_89 : decode cX4_make 89 = .ok (.iconst 3, 1) := dk_6 (dk_at dksX4_make_3 19 rfl rfl)
theorem dX4_make_90 : decode cX4_make 90 = .ok (.if_icmp .ge 9, 3) := dk_162 0 9 (dk_at dksX4_make_3 20 rfl rfl)
theorem dX4_make_93 : decode cX4_make 93 = .ok (.iload_n 1, 1) := dk_27 (dk_at dksX4_make_3 23 rfl rfl)
theorem dX4_make_94 : decode cX4_make 94 = .ok (.iconst 1, 1) := dk_4 (dk_at dksX4_make_4 0 rfl rfl)
theorem dX4_make_95 : decode cX4_make 95 = .ok (.iadd, 1) := dk_96 (dk_at dksX4_make_4 1 rfl rfl)
theorem dX4_make_96 : decode cX4_make 96 = .ok (.goto 6, 3) := dk_167 0 6 (dk_at dksX4_make_4 2 rfl rfl)
theorem dX4_make_99 : decode cX4_make 99 = .ok (.iload_n 2, 1) := dk_28 (dk_at dksX4_make_4 5 rfl rfl)
theorem dX4_make_100 : decode cX4_make 100 = .ok (.iload_n 3, 1) := dk_29 (dk_at dksX4_make_4 6 rfl rfl)
theorem dX4_make_101 : decode cX4_make 101 = .ok (.iadd, 1) := dk_96 (dk_at dksX4_make_4 7 rfl rfl)
theorem dX4_make_102 : decode cX4_make 102 = .ok (.invokevirtual 60, 3) := dk_182 0 60 (dk_at dksX4_make_4 8 rfl rfl)
theorem dX4_make_105 : decode cX4_make 105 = .ok (.aload_n 0, 1) := dk_42 (dk_at dksX4_make_4 11 rfl rfl)
theorem dX4_make_106 : decode cX4_make 106 = .ok (.invokevirtual 64, 3) := dk_182 0 64 (dk_at dksX4_make_4 12 rfl rfl)
theorem dX4_make_109 : decode cX4_make 109 = .ok (.ireturn, 1) := dk_172 (dk_at dksX4_make_4 15 rfl rfl)
abbrev cX4_in : ByteArray := prog_9_method_2_code
def yX4_in : MethodName := ⟨RX4, "in", "(JJJ)Z"⟩
def dkwX4_in_0 : List UInt8 := [30, 32, 148, 155, 0, 14, 30, 22, 4, 148, 157, 0, 7, 4, 167, 0, 4, 3, 172]
abbrev dktX4_in_0 : List UInt8 := dkwX4_in_0 ++ []
theorem dksX4_in_0 : cX4_in.data.toList.drop 0 = dktX4_in_0 := by decide +kernel
theorem dX4_in_0 : decode cX4_in 0 = .ok (.lload_n 0, 1) := dk_30 (dk_at dksX4_in_0 0 rfl rfl)
theorem dX4_in_1 : decode cX4_in 1 = .ok (.lload_n 2, 1) := dk_32 (dk_at dksX4_in_0 1 rfl rfl)
theorem dX4_in_2 : decode cX4_in 2 = .ok (.lcmp, 1) := dk_148 (dk_at dksX4_in_0 2 rfl rfl)
theorem dX4_in_3 : decode cX4_in 3 = .ok (.ifCond .lt 14, 3) := dk_155 0 14 (dk_at dksX4_in_0 3 rfl rfl)
theorem dX4_in_6 : decode cX4_in 6 = .ok (.lload_n 0, 1) := dk_30 (dk_at dksX4_in_0 6 rfl rfl)
theorem dX4_in_7 : decode cX4_in 7 = .ok (.lload 4, 2) := dk_22 4 (dk_at dksX4_in_0 7 rfl rfl)
theorem dX4_in_9 : decode cX4_in 9 = .ok (.lcmp, 1) := dk_148 (dk_at dksX4_in_0 9 rfl rfl)
theorem dX4_in_10 : decode cX4_in 10 = .ok (.ifCond .gt 7, 3) := dk_157 0 7 (dk_at dksX4_in_0 10 rfl rfl)
theorem dX4_in_13 : decode cX4_in 13 = .ok (.iconst 1, 1) := dk_4 (dk_at dksX4_in_0 13 rfl rfl)
theorem dX4_in_14 : decode cX4_in 14 = .ok (.goto 4, 3) := dk_167 0 4 (dk_at dksX4_in_0 14 rfl rfl)
theorem dX4_in_17 : decode cX4_in 17 = .ok (.iconst 0, 1) := dk_3 (dk_at dksX4_in_0 17 rfl rfl)
theorem dX4_in_18 : decode cX4_in 18 = .ok (.ireturn, 1) := dk_172 (dk_at dksX4_in_0 18 rfl rfl)
abbrev cX4_lay : ByteArray := prog_9_method_7_code
def yX4_lay : MethodName := ⟨RX4, "lay", "(III)V"⟩
def dkwX4_lay_2 : List UInt8 := [180, 0, 45, 104, 21, 4, 96, 9, 80, 132, 4, 1, 167, 255, 230, 177]
abbrev dktX4_lay_2 : List UInt8 := dkwX4_lay_2 ++ []
def dkwX4_lay_1 : List UInt8 := [42, 180, 0, 45, 29, 79, 3, 54, 4, 21, 4, 16, 12, 162, 0, 25, 42, 180, 0, 19, 16, 12, 42]
abbrev dktX4_lay_1 : List UInt8 := dkwX4_lay_1 ++ dktX4_lay_2
def dkwX4_lay_0 : List UInt8 := [42, 180, 0, 7, 42, 180, 0, 45, 27, 79, 42, 180, 0, 13, 42, 180, 0, 45, 28, 79, 42, 180, 0, 16]
abbrev dktX4_lay_0 : List UInt8 := dkwX4_lay_0 ++ dktX4_lay_1
theorem dksX4_lay_0 : cX4_lay.data.toList.drop 0 = dktX4_lay_0 := by decide +kernel
theorem dksX4_lay_1 : cX4_lay.data.toList.drop 24 = dktX4_lay_1 := dk_seg dksX4_lay_0 24 rfl rfl
theorem dksX4_lay_2 : cX4_lay.data.toList.drop 47 = dktX4_lay_2 := dk_seg dksX4_lay_1 23 rfl rfl
theorem dX4_lay_0 : decode cX4_lay 0 = .ok (.aload_n 0, 1) := dk_42 (dk_at dksX4_lay_0 0 rfl rfl)
theorem dX4_lay_1 : decode cX4_lay 1 = .ok (.getfield 7, 3) := dk_180 0 7 (dk_at dksX4_lay_0 1 rfl rfl)
theorem dX4_lay_4 : decode cX4_lay 4 = .ok (.aload_n 0, 1) := dk_42 (dk_at dksX4_lay_0 4 rfl rfl)
theorem dX4_lay_5 : decode cX4_lay 5 = .ok (.getfield 45, 3) := dk_180 0 45 (dk_at dksX4_lay_0 5 rfl rfl)
theorem dX4_lay_8 : decode cX4_lay 8 = .ok (.iload_n 1, 1) := dk_27 (dk_at dksX4_lay_0 8 rfl rfl)
theorem dX4_lay_9 : decode cX4_lay 9 = .ok (.iastore, 1) := dk_79 (dk_at dksX4_lay_0 9 rfl rfl)
theorem dX4_lay_10 : decode cX4_lay 10 = .ok (.aload_n 0, 1) := dk_42 (dk_at dksX4_lay_0 10 rfl rfl)
theorem dX4_lay_11 : decode cX4_lay 11 = .ok (.getfield 13, 3) := dk_180 0 13 (dk_at dksX4_lay_0 11 rfl rfl)
theorem dX4_lay_14 : decode cX4_lay 14 = .ok (.aload_n 0, 1) := dk_42 (dk_at dksX4_lay_0 14 rfl rfl)
theorem dX4_lay_15 : decode cX4_lay 15 = .ok (.getfield 45, 3) := dk_180 0 45 (dk_at dksX4_lay_0 15 rfl rfl)
theorem dX4_lay_18 : decode cX4_lay 18 = .ok (.iload_n 2, 1) := dk_28 (dk_at dksX4_lay_0 18 rfl rfl)
theorem dX4_lay_19 : decode cX4_lay 19 = .ok (.iastore, 1) := dk_79 (dk_at dksX4_lay_0 19 rfl rfl)
theorem dX4_lay_20 : decode cX4_lay 20 = .ok (.aload_n 0, 1) := dk_42 (dk_at dksX4_lay_0 20 rfl rfl)
theorem dX4_lay_21 : decode cX4_lay 21 = .ok (.getfield 16, 3) := dk_180 0 16 (dk_at dksX4_lay_0 21 rfl rfl)
theorem dX4_lay_24 : decode cX4_lay 24 = .ok (.aload_n 0, 1) := dk_42 (dk_at dksX4_lay_1 0 rfl rfl)
theorem dX4_lay_25 : decode cX4_lay 25 = .ok (.getfield 45, 3) := dk_180 0 45 (dk_at dksX4_lay_1 1 rfl rfl)
theorem dX4_lay_28 : decode cX4_lay 28 = .ok (.iload_n 3, 1) := dk_29 (dk_at dksX4_lay_1 4 rfl rfl)
theorem dX4_lay_29 : decode cX4_lay 29 = .ok (.iastore, 1) := dk_79 (dk_at dksX4_lay_1 5 rfl rfl)
theorem dX4_lay_30 : decode cX4_lay 30 = .ok (.iconst 0, 1) := dk_3 (dk_at dksX4_lay_1 6 rfl rfl)
theorem dX4_lay_31 : decode cX4_lay 31 = .ok (.istore 4, 2) := dk_54 4 (dk_at dksX4_lay_1 7 rfl rfl)
theorem dX4_lay_33 : decode cX4_lay 33 = .ok (.iload 4, 2) := dk_21 4 (dk_at dksX4_lay_1 9 rfl rfl)
theorem dX4_lay_35 : decode cX4_lay 35 = .ok (.bipush 12, 2) := dk_16 12 (dk_at dksX4_lay_1 11 rfl rfl)
theorem dX4_lay_37 : decode cX4_lay 37 = .ok (.if_icmp .ge 25, 3) := dk_162 0 25 (dk_at dksX4_lay_1 13 rfl rfl)
theorem dX4_lay_40 : decode cX4_lay 40 = .ok (.aload_n 0, 1) := dk_42 (dk_at dksX4_lay_1 16 rfl rfl)
theorem dX4_lay_41 : decode cX4_lay 41 = .ok (.getfield 19, 3) := dk_180 0 19 (dk_at dksX4_lay_1 17 rfl rfl)
theorem dX4_lay_44 : decode cX4_lay 44 = .ok (.bipush 12, 2) := dk_16 12 (dk_at dksX4_lay_1 20 rfl rfl)
theorem dX4_lay_46 : decode cX4_lay 46 = .ok (.aload_n 0, 1) := dk_42 (dk_at dksX4_lay_1 22 rfl rfl)
theorem dX4_lay_47 : decode cX4_lay 47 = .ok (.getfield 45, 3) := dk_180 0 45 (dk_at dksX4_lay_2 0 rfl rfl)
theorem dX4_lay_50 : decode cX4_lay 50 = .ok (.imul, 1) := dk_104 (dk_at dksX4_lay_2 3 rfl rfl)
theorem dX4_lay_51 : decode cX4_lay 51 = .ok (.iload 4, 2) := dk_21 4 (dk_at dksX4_lay_2 4 rfl rfl)
theorem dX4_lay_53 : decode cX4_lay 53 = .ok (.iadd, 1) := dk_96 (dk_at dksX4_lay_2 6 rfl rfl)
theorem dX4_lay_54 : decode cX4_lay 54 = .ok (.lconst 0, 1) := dk_9 (dk_at dksX4_lay_2 7 rfl rfl)
theorem dX4_lay_55 : decode cX4_lay 55 = .ok (.lastore, 1) := dk_80 (dk_at dksX4_lay_2 8 rfl rfl)
theorem dX4_lay_56 : decode cX4_lay 56 = .ok (.iinc 4 1, 3) := dk_132 4 1 (dk_at dksX4_lay_2 9 rfl rfl)
theorem dX4_lay_59 : decode cX4_lay 59 = .ok (.goto (-26), 3) := dk_167 255 230 (dk_at dksX4_lay_2 12 rfl rfl)
theorem dX4_lay_62 : decode cX4_lay 62 = .ok (.return_, 1) := dk_177 (dk_at dksX4_lay_2 15 rfl rfl)
abbrev cX4_keepScore : ByteArray := prog_9_method_8_code
def yX4_keepScore : MethodName := ⟨RX4, "keepScore", "()I"⟩
def dkwX4_keepScore_0 : List UInt8 := [42, 89, 180, 0, 45, 4, 96, 181, 0, 45, 42, 180, 0, 45, 4, 100, 172]
abbrev dktX4_keepScore_0 : List UInt8 := dkwX4_keepScore_0 ++ []
theorem dksX4_keepScore_0 : cX4_keepScore.data.toList.drop 0 = dktX4_keepScore_0 := by decide +kernel
theorem dX4_keepScore_0 : decode cX4_keepScore 0 = .ok (.aload_n 0, 1) := dk_42 (dk_at dksX4_keepScore_0 0 rfl rfl)
theorem dX4_keepScore_1 : decode cX4_keepScore 1 = .ok (.dup, 1) := dk_89 (dk_at dksX4_keepScore_0 1 rfl rfl)
theorem dX4_keepScore_2 : decode cX4_keepScore 2 = .ok (.getfield 45, 3) := dk_180 0 45 (dk_at dksX4_keepScore_0 2 rfl rfl)
theorem dX4_keepScore_5 : decode cX4_keepScore 5 = .ok (.iconst 1, 1) := dk_4 (dk_at dksX4_keepScore_0 5 rfl rfl)
theorem dX4_keepScore_6 : decode cX4_keepScore 6 = .ok (.iadd, 1) := dk_96 (dk_at dksX4_keepScore_0 6 rfl rfl)
theorem dX4_keepScore_7 : decode cX4_keepScore 7 = .ok (.putfield 45, 3) := dk_181 0 45 (dk_at dksX4_keepScore_0 7 rfl rfl)
theorem dX4_keepScore_10 : decode cX4_keepScore 10 = .ok (.aload_n 0, 1) := dk_42 (dk_at dksX4_keepScore_0 10 rfl rfl)
theorem dX4_keepScore_11 : decode cX4_keepScore 11 = .ok (.getfield 45, 3) := dk_180 0 45 (dk_at dksX4_keepScore_0 11 rfl rfl)
theorem dX4_keepScore_14 : decode cX4_keepScore 14 = .ok (.iconst 1, 1) := dk_4 (dk_at dksX4_keepScore_0 14 rfl rfl)
theorem dX4_keepScore_15 : decode cX4_keepScore 15 = .ok (.isub, 1) := dk_100 (dk_at dksX4_keepScore_0 15 rfl rfl)
theorem dX4_keepScore_16 : decode cX4_keepScore 16 = .ok (.ireturn, 1) := dk_172 (dk_at dksX4_keepScore_0 16 rfl rfl)
abbrev cX4_nothing : ByteArray := prog_9_method_10_code
def yX4_nothing : MethodName := ⟨RX4, "nothing", "()I"⟩
def dkwX4_nothing_0 : List UInt8 := [42, 180, 0, 45, 16, 60, 160, 0, 6, 16, 252, 172, 42, 2, 3, 3, 182, 0, 60, 42, 182, 0, 64, 172]
abbrev dktX4_nothing_0 : List UInt8 := dkwX4_nothing_0 ++ []
theorem dksX4_nothing_0 : cX4_nothing.data.toList.drop 0 = dktX4_nothing_0 := by decide +kernel
theorem dX4_nothing_0 : decode cX4_nothing 0 = .ok (.aload_n 0, 1) := dk_42 (dk_at dksX4_nothing_0 0 rfl rfl)
theorem dX4_nothing_1 : decode cX4_nothing 1 = .ok (.getfield 45, 3) := dk_180 0 45 (dk_at dksX4_nothing_0 1 rfl rfl)
theorem dX4_nothing_4 : decode cX4_nothing 4 = .ok (.bipush 60, 2) := dk_16 60 (dk_at dksX4_nothing_0 4 rfl rfl)
theorem dX4_nothing_6 : decode cX4_nothing 6 = .ok (.if_icmp .ne 6, 3) := dk_160 0 6 (dk_at dksX4_nothing_0 6 rfl rfl)
theorem dX4_nothing_9 : decode cX4_nothing 9 = .ok (.bipush (-4), 2) := dk_16 252 (dk_at dksX4_nothing_0 9 rfl rfl)
theorem dX4_nothing_11 : decode cX4_nothing 11 = .ok (.ireturn, 1) := dk_172 (dk_at dksX4_nothing_0 11 rfl rfl)
theorem dX4_nothing_12 : decode cX4_nothing 12 = .ok (.aload_n 0, 1) := dk_42 (dk_at dksX4_nothing_0 12 rfl rfl)
theorem dX4_nothing_13 : decode cX4_nothing 13 = .ok (.iconst (-1), 1) := dk_2 (dk_at dksX4_nothing_0 13 rfl rfl)
theorem dX4_nothing_14 : decode cX4_nothing 14 = .ok (.iconst 0, 1) := dk_3 (dk_at dksX4_nothing_0 14 rfl rfl)
theorem dX4_nothing_15 : decode cX4_nothing 15 = .ok (.iconst 0, 1) := dk_3 (dk_at dksX4_nothing_0 15 rfl rfl)
theorem dX4_nothing_16 : decode cX4_nothing 16 = .ok (.invokevirtual 60, 3) := dk_182 0 60 (dk_at dksX4_nothing_0 16 rfl rfl)
theorem dX4_nothing_19 : decode cX4_nothing 19 = .ok (.aload_n 0, 1) := dk_42 (dk_at dksX4_nothing_0 19 rfl rfl)
theorem dX4_nothing_20 : decode cX4_nothing 20 = .ok (.invokevirtual 64, 3) := dk_182 0 64 (dk_at dksX4_nothing_0 20 rfl rfl)
theorem dX4_nothing_23 : decode cX4_nothing 23 = .ok (.ireturn, 1) := dk_172 (dk_at dksX4_nothing_0 23 rfl rfl)
abbrev cX4_set : ByteArray := prog_9_method_11_code
def yX4_set : MethodName := ⟨RX4, "set", "(IIJ)I"⟩
def dkwX4_set_2 : List UInt8 := [16, 12, 27, 104, 28, 96, 33, 80, 4, 172]
abbrev dktX4_set_2 : List UInt8 := dkwX4_set_2 ++ []
def dkwX4_set_1 : List UInt8 := [9, 42, 180, 0, 16, 27, 46, 4, 100, 133, 184, 0, 48, 154, 0, 6, 16, 243, 172, 42, 180, 0, 19]
abbrev dktX4_set_1 : List UInt8 := dkwX4_set_1 ++ dktX4_set_2
def dkwX4_set_0 : List UInt8 := [42, 27, 182, 0, 68, 154, 0, 6, 16, 254, 172, 42, 27, 182, 0, 72, 153, 0, 6, 16, 245, 172, 28, 133]
abbrev dktX4_set_0 : List UInt8 := dkwX4_set_0 ++ dktX4_set_1
theorem dksX4_set_0 : cX4_set.data.toList.drop 0 = dktX4_set_0 := by decide +kernel
theorem dksX4_set_1 : cX4_set.data.toList.drop 24 = dktX4_set_1 := dk_seg dksX4_set_0 24 rfl rfl
theorem dksX4_set_2 : cX4_set.data.toList.drop 47 = dktX4_set_2 := dk_seg dksX4_set_1 23 rfl rfl
theorem dX4_set_0 : decode cX4_set 0 = .ok (.aload_n 0, 1) := dk_42 (dk_at dksX4_set_0 0 rfl rfl)
theorem dX4_set_1 : decode cX4_set 1 = .ok (.iload_n 1, 1) := dk_27 (dk_at dksX4_set_0 1 rfl rfl)
theorem dX4_set_2 : decode cX4_set 2 = .ok (.invokevirtual 68, 3) := dk_182 0 68 (dk_at dksX4_set_0 2 rfl rfl)
theorem dX4_set_5 : decode cX4_set 5 = .ok (.ifCond .ne 6, 3) := dk_154 0 6 (dk_at dksX4_set_0 5 rfl rfl)
theorem dX4_set_8 : decode cX4_set 8 = .ok (.bipush (-2), 2) := dk_16 254 (dk_at dksX4_set_0 8 rfl rfl)
theorem dX4_set_10 : decode cX4_set 10 = .ok (.ireturn, 1) := dk_172 (dk_at dksX4_set_0 10 rfl rfl)
theorem dX4_set_11 : decode cX4_set 11 = .ok (.aload_n 0, 1) := dk_42 (dk_at dksX4_set_0 11 rfl rfl)
theorem dX4_set_12 : decode cX4_set 12 = .ok (.iload_n 1, 1) := dk_27 (dk_at dksX4_set_0 12 rfl rfl)
theorem dX4_set_13 : decode cX4_set 13 = .ok (.invokevirtual 72, 3) := dk_182 0 72 (dk_at dksX4_set_0 13 rfl rfl)
theorem dX4_set_16 : decode cX4_set 16 = .ok (.ifCond .eq 6, 3) := dk_153 0 6 (dk_at dksX4_set_0 16 rfl rfl)
theorem dX4_set_19 : decode cX4_set 19 = .ok (.bipush (-11), 2) := dk_16 245 (dk_at dksX4_set_0 19 rfl rfl)
theorem dX4_set_21 : decode cX4_set 21 = .ok (.ireturn, 1) := dk_172 (dk_at dksX4_set_0 21 rfl rfl)
theorem dX4_set_22 : decode cX4_set 22 = .ok (.iload_n 2, 1) := dk_28 (dk_at dksX4_set_0 22 rfl rfl)
theorem dX4_set_23 : decode cX4_set 23 = .ok (.i2l, 1) := dk_133 (dk_at dksX4_set_0 23 rfl rfl)
theorem dX4_set_24 : decode cX4_set 24 = .ok (.lconst 0, 1) := dk_9 (dk_at dksX4_set_1 0 rfl rfl)
theorem dX4_set_25 : decode cX4_set 25 = .ok (.aload_n 0, 1) := dk_42 (dk_at dksX4_set_1 1 rfl rfl)
theorem dX4_set_26 : decode cX4_set 26 = .ok (.getfield 16, 3) := dk_180 0 16 (dk_at dksX4_set_1 2 rfl rfl)
theorem dX4_set_29 : decode cX4_set 29 = .ok (.iload_n 1, 1) := dk_27 (dk_at dksX4_set_1 5 rfl rfl)
theorem dX4_set_30 : decode cX4_set 30 = .ok (.iaload, 1) := dk_46 (dk_at dksX4_set_1 6 rfl rfl)
theorem dX4_set_31 : decode cX4_set 31 = .ok (.iconst 1, 1) := dk_4 (dk_at dksX4_set_1 7 rfl rfl)
theorem dX4_set_32 : decode cX4_set 32 = .ok (.isub, 1) := dk_100 (dk_at dksX4_set_1 8 rfl rfl)
theorem dX4_set_33 : decode cX4_set 33 = .ok (.i2l, 1) := dk_133 (dk_at dksX4_set_1 9 rfl rfl)
theorem dX4_set_34 : decode cX4_set 34 = .ok (.invokestatic 48, 3) := dk_184 0 48 (dk_at dksX4_set_1 10 rfl rfl)
theorem dX4_set_37 : decode cX4_set 37 = .ok (.ifCond .ne 6, 3) := dk_154 0 6 (dk_at dksX4_set_1 13 rfl rfl)
theorem dX4_set_40 : decode cX4_set 40 = .ok (.bipush (-13), 2) := dk_16 243 (dk_at dksX4_set_1 16 rfl rfl)
theorem dX4_set_42 : decode cX4_set 42 = .ok (.ireturn, 1) := dk_172 (dk_at dksX4_set_1 18 rfl rfl)
theorem dX4_set_43 : decode cX4_set 43 = .ok (.aload_n 0, 1) := dk_42 (dk_at dksX4_set_1 19 rfl rfl)
theorem dX4_set_44 : decode cX4_set 44 = .ok (.getfield 19, 3) := dk_180 0 19 (dk_at dksX4_set_1 20 rfl rfl)
theorem dX4_set_47 : decode cX4_set 47 = .ok (.bipush 12, 2) := dk_16 12 (dk_at dksX4_set_2 0 rfl rfl)
theorem dX4_set_49 : decode cX4_set 49 = .ok (.iload_n 1, 1) := dk_27 (dk_at dksX4_set_2 2 rfl rfl)
theorem dX4_set_50 : decode cX4_set 50 = .ok (.imul, 1) := dk_104 (dk_at dksX4_set_2 3 rfl rfl)
theorem dX4_set_51 : decode cX4_set 51 = .ok (.iload_n 2, 1) := dk_28 (dk_at dksX4_set_2 4 rfl rfl)
theorem dX4_set_52 : decode cX4_set 52 = .ok (.iadd, 1) := dk_96 (dk_at dksX4_set_2 5 rfl rfl)
theorem dX4_set_53 : decode cX4_set 53 = .ok (.lload_n 3, 1) := dk_33 (dk_at dksX4_set_2 6 rfl rfl)
theorem dX4_set_54 : decode cX4_set 54 = .ok (.lastore, 1) := dk_80 (dk_at dksX4_set_2 7 rfl rfl)
theorem dX4_set_55 : decode cX4_set 55 = .ok (.iconst 1, 1) := dk_4 (dk_at dksX4_set_2 8 rfl rfl)
theorem dX4_set_56 : decode cX4_set 56 = .ok (.ireturn, 1) := dk_172 (dk_at dksX4_set_2 9 rfl rfl)
abbrev cX4_isNumber : ByteArray := prog_9_method_3_code
def yX4_isNumber : MethodName := ⟨RX4, "isNumber", "(I)Z"⟩
def dkwX4_isNumber_0 : List UInt8 := [27, 133, 9, 42, 180, 0, 45, 4, 100, 133, 184, 0, 48, 172]
abbrev dktX4_isNumber_0 : List UInt8 := dkwX4_isNumber_0 ++ []
theorem dksX4_isNumber_0 : cX4_isNumber.data.toList.drop 0 = dktX4_isNumber_0 := by decide +kernel
theorem dX4_isNumber_0 : decode cX4_isNumber 0 = .ok (.iload_n 1, 1) := dk_27 (dk_at dksX4_isNumber_0 0 rfl rfl)
theorem dX4_isNumber_1 : decode cX4_isNumber 1 = .ok (.i2l, 1) := dk_133 (dk_at dksX4_isNumber_0 1 rfl rfl)
theorem dX4_isNumber_2 : decode cX4_isNumber 2 = .ok (.lconst 0, 1) := dk_9 (dk_at dksX4_isNumber_0 2 rfl rfl)
theorem dX4_isNumber_3 : decode cX4_isNumber 3 = .ok (.aload_n 0, 1) := dk_42 (dk_at dksX4_isNumber_0 3 rfl rfl)
theorem dX4_isNumber_4 : decode cX4_isNumber 4 = .ok (.getfield 45, 3) := dk_180 0 45 (dk_at dksX4_isNumber_0 4 rfl rfl)
theorem dX4_isNumber_7 : decode cX4_isNumber 7 = .ok (.iconst 1, 1) := dk_4 (dk_at dksX4_isNumber_0 7 rfl rfl)
theorem dX4_isNumber_8 : decode cX4_isNumber 8 = .ok (.isub, 1) := dk_100 (dk_at dksX4_isNumber_0 8 rfl rfl)
theorem dX4_isNumber_9 : decode cX4_isNumber 9 = .ok (.i2l, 1) := dk_133 (dk_at dksX4_isNumber_0 9 rfl rfl)
theorem dX4_isNumber_10 : decode cX4_isNumber 10 = .ok (.invokestatic 48, 3) := dk_184 0 48 (dk_at dksX4_isNumber_0 10 rfl rfl)
theorem dX4_isNumber_13 : decode cX4_isNumber 13 = .ok (.ireturn, 1) := dk_172 (dk_at dksX4_isNumber_0 13 rfl rfl)
abbrev cX4_isNothing : ByteArray := prog_9_method_4_code
def yX4_isNothing : MethodName := ⟨RX4, "isNothing", "(I)Z"⟩
def dkwX4_isNothing_0 : List UInt8 := [42, 180, 0, 7, 27, 46, 2, 160, 0, 7, 4, 167, 0, 4, 3, 172]
abbrev dktX4_isNothing_0 : List UInt8 := dkwX4_isNothing_0 ++ []
theorem dksX4_isNothing_0 : cX4_isNothing.data.toList.drop 0 = dktX4_isNothing_0 := by decide +kernel
theorem dX4_isNothing_0 : decode cX4_isNothing 0 = .ok (.aload_n 0, 1) := dk_42 (dk_at dksX4_isNothing_0 0 rfl rfl)
theorem dX4_isNothing_1 : decode cX4_isNothing 1 = .ok (.getfield 7, 3) := dk_180 0 7 (dk_at dksX4_isNothing_0 1 rfl rfl)
theorem dX4_isNothing_4 : decode cX4_isNothing 4 = .ok (.iload_n 1, 1) := dk_27 (dk_at dksX4_isNothing_0 4 rfl rfl)
theorem dX4_isNothing_5 : decode cX4_isNothing 5 = .ok (.iaload, 1) := dk_46 (dk_at dksX4_isNothing_0 5 rfl rfl)
theorem dX4_isNothing_6 : decode cX4_isNothing 6 = .ok (.iconst (-1), 1) := dk_2 (dk_at dksX4_isNothing_0 6 rfl rfl)
theorem dX4_isNothing_7 : decode cX4_isNothing 7 = .ok (.if_icmp .ne 7, 3) := dk_160 0 7 (dk_at dksX4_isNothing_0 7 rfl rfl)
theorem dX4_isNothing_10 : decode cX4_isNothing 10 = .ok (.iconst 1, 1) := dk_4 (dk_at dksX4_isNothing_0 10 rfl rfl)
theorem dX4_isNothing_11 : decode cX4_isNothing 11 = .ok (.goto 4, 3) := dk_167 0 4 (dk_at dksX4_isNothing_0 11 rfl rfl)
theorem dX4_isNothing_14 : decode cX4_isNothing 14 = .ok (.iconst 0, 1) := dk_3 (dk_at dksX4_isNothing_0 14 rfl rfl)
theorem dX4_isNothing_15 : decode cX4_isNothing 15 = .ok (.ireturn, 1) := dk_172 (dk_at dksX4_isNothing_0 15 rfl rfl)
abbrev cX4_thrown : ByteArray := prog_9_method_12_code
def yX4_thrown : MethodName := ⟨RX4, "thrown", "()I"⟩
theorem dX4_thrown_0 : decode cX4_thrown 0 = .ok (.aload_n 0, 1) := by decide +kernel
theorem dX4_thrown_1 : decode cX4_thrown 1 = .ok (.getfield 75, 3) := by decide +kernel
theorem dX4_thrown_4 : decode cX4_thrown 4 = .ok (.ireturn, 1) := by decide +kernel
abbrev cX4_at : ByteArray := prog_9_method_13_code
def yX4_at : MethodName := ⟨RX4, "at", "(II)J"⟩
def dkwX4_at_3 : List UInt8 := [27, 104, 28, 96, 47, 173]
abbrev dktX4_at_3 : List UInt8 := dkwX4_at_3 ++ []
def dkwX4_at_2 : List UInt8 := [167, 0, 4, 3, 181, 0, 75, 42, 180, 0, 75, 158, 0, 7, 9, 167, 0, 14, 42, 180, 0, 19, 16, 12]
abbrev dktX4_at_2 : List UInt8 := dkwX4_at_2 ++ dktX4_at_3
def dkwX4_at_1 : List UInt8 := [167, 0, 26, 28, 133, 9, 42, 180, 0, 16, 27, 46, 4, 100, 133, 184, 0, 48, 154, 0, 7, 4]
abbrev dktX4_at_1 : List UInt8 := dkwX4_at_1 ++ dktX4_at_2
def dkwX4_at_0 : List UInt8 := [42, 42, 27, 182, 0, 68, 154, 0, 7, 4, 167, 0, 38, 42, 27, 182, 0, 72, 153, 0, 7, 5]
abbrev dktX4_at_0 : List UInt8 := dkwX4_at_0 ++ dktX4_at_1
theorem dksX4_at_0 : cX4_at.data.toList.drop 0 = dktX4_at_0 := by decide +kernel
theorem dksX4_at_1 : cX4_at.data.toList.drop 22 = dktX4_at_1 := dk_seg dksX4_at_0 22 rfl rfl
theorem dksX4_at_2 : cX4_at.data.toList.drop 44 = dktX4_at_2 := dk_seg dksX4_at_1 22 rfl rfl
theorem dksX4_at_3 : cX4_at.data.toList.drop 68 = dktX4_at_3 := dk_seg dksX4_at_2 24 rfl rfl
theorem dX4_at_0 : decode cX4_at 0 = .ok (.aload_n 0, 1) := dk_42 (dk_at dksX4_at_0 0 rfl rfl)
theorem dX4_at_1 : decode cX4_at 1 = .ok (.aload_n 0, 1) := dk_42 (dk_at dksX4_at_0 1 rfl rfl)
theorem dX4_at_2 : decode cX4_at 2 = .ok (.iload_n 1, 1) := dk_27 (dk_at dksX4_at_0 2 rfl rfl)
theorem dX4_at_3 : decode cX4_at 3 = .ok (.invokevirtual 68, 3) := dk_182 0 68 (dk_at dksX4_at_0 3 rfl rfl)
theorem dX4_at_6 : decode cX4_at 6 = .ok (.ifCond .ne 7, 3) := dk_154 0 7 (dk_at dksX4_at_0 6 rfl rfl)
theorem dX4_at_9 : decode cX4_at 9 = .ok (.iconst 1, 1) := dk_4 (dk_at dksX4_at_0 9 rfl rfl)
theorem dX4_at_10 : decode cX4_at 10 = .ok (.goto 38, 3) := dk_167 0 38 (dk_at dksX4_at_0 10 rfl rfl)
theorem dX4_at_13 : decode cX4_at 13 = .ok (.aload_n 0, 1) := dk_42 (dk_at dksX4_at_0 13 rfl rfl)
theorem dX4_at_14 : decode cX4_at 14 = .ok (.iload_n 1, 1) := dk_27 (dk_at dksX4_at_0 14 rfl rfl)
theorem dX4_at_15 : decode cX4_at 15 = .ok (.invokevirtual 72, 3) := dk_182 0 72 (dk_at dksX4_at_0 15 rfl rfl)
theorem dX4_at_18 : decode cX4_at 18 = .ok (.ifCond .eq 7, 3) := dk_153 0 7 (dk_at dksX4_at_0 18 rfl rfl)
theorem dX4_at_21 : decode cX4_at 21 = .ok (.iconst 2, 1) := dk_5 (dk_at dksX4_at_0 21 rfl rfl)
theorem dX4_at_22 : decode cX4_at 22 = .ok (.goto 26, 3) := dk_167 0 26 (dk_at dksX4_at_1 0 rfl rfl)
theorem dX4_at_25 : decode cX4_at 25 = .ok (.iload_n 2, 1) := dk_28 (dk_at dksX4_at_1 3 rfl rfl)
theorem dX4_at_26 : decode cX4_at 26 = .ok (.i2l, 1) := dk_133 (dk_at dksX4_at_1 4 rfl rfl)
theorem dX4_at_27 : decode cX4_at 27 = .ok (.lconst 0, 1) := dk_9 (dk_at dksX4_at_1 5 rfl rfl)
theorem dX4_at_28 : decode cX4_at 28 = .ok (.aload_n 0, 1) := dk_42 (dk_at dksX4_at_1 6 rfl rfl)
theorem dX4_at_29 : decode cX4_at 29 = .ok (.getfield 16, 3) := dk_180 0 16 (dk_at dksX4_at_1 7 rfl rfl)
theorem dX4_at_32 : decode cX4_at 32 = .ok (.iload_n 1, 1) := dk_27 (dk_at dksX4_at_1 10 rfl rfl)
theorem dX4_at_33 : decode cX4_at 33 = .ok (.iaload, 1) := dk_46 (dk_at dksX4_at_1 11 rfl rfl)
theorem dX4_at_34 : decode cX4_at 34 = .ok (.iconst 1, 1) := dk_4 (dk_at dksX4_at_1 12 rfl rfl)
theorem dX4_at_35 : decode cX4_at 35 = .ok (.isub, 1) := dk_100 (dk_at dksX4_at_1 13 rfl rfl)
theorem dX4_at_36 : decode cX4_at 36 = .ok (.i2l, 1) := dk_133 (dk_at dksX4_at_1 14 rfl rfl)
theorem dX4_at_37 : decode cX4_at 37 = .ok (.invokestatic 48, 3) := dk_184 0 48 (dk_at dksX4_at_1 15 rfl rfl)
theorem dX4_at_40 : decode cX4_at 40 = .ok (.ifCond .ne 7, 3) := dk_154 0 7 (dk_at dksX4_at_1 18 rfl rfl)
theorem dX4_at_43 : decode cX4_at 43 = .ok (.iconst 1, 1) := dk_4 (dk_at dksX4_at_1 21 rfl rfl)
theorem dX4_at_44 : decode cX4_at 44 = .ok (.goto 4, 3) := dk_167 0 4 (dk_at dksX4_at_2 0 rfl rfl)
theorem dX4_at_47 : decode cX4_at 47 = .ok (.iconst 0, 1) := dk_3 (dk_at dksX4_at_2 3 rfl rfl)
theorem dX4_at_48 : decode cX4_at 48 = .ok (.putfield 75, 3) := dk_181 0 75 (dk_at dksX4_at_2 4 rfl rfl)
theorem dX4_at_51 : decode cX4_at 51 = .ok (.aload_n 0, 1) := dk_42 (dk_at dksX4_at_2 7 rfl rfl)
theorem dX4_at_52 : decode cX4_at 52 = .ok (.getfield 75, 3) := dk_180 0 75 (dk_at dksX4_at_2 8 rfl rfl)
theorem dX4_at_55 : decode cX4_at 55 = .ok (.ifCond .le 7, 3) := dk_158 0 7 (dk_at dksX4_at_2 11 rfl rfl)
theorem dX4_at_58 : decode cX4_at 58 = .ok (.lconst 0, 1) := dk_9 (dk_at dksX4_at_2 14 rfl rfl)
theorem dX4_at_59 : decode cX4_at 59 = .ok (.goto 14, 3) := dk_167 0 14 (dk_at dksX4_at_2 15 rfl rfl)
theorem dX4_at_62 : decode cX4_at 62 = .ok (.aload_n 0, 1) := dk_42 (dk_at dksX4_at_2 18 rfl rfl)
theorem dX4_at_63 : decode cX4_at 63 = .ok (.getfield 19, 3) := dk_180 0 19 (dk_at dksX4_at_2 19 rfl rfl)
theorem dX4_at_66 : decode cX4_at 66 = .ok (.bipush 12, 2) := dk_16 12 (dk_at dksX4_at_2 22 rfl rfl)
theorem dX4_at_68 : decode cX4_at 68 = .ok (.iload_n 1, 1) := dk_27 (dk_at dksX4_at_3 0 rfl rfl)
theorem dX4_at_69 : decode cX4_at 69 = .ok (.imul, 1) := dk_104 (dk_at dksX4_at_3 1 rfl rfl)
theorem dX4_at_70 : decode cX4_at 70 = .ok (.iload_n 2, 1) := dk_28 (dk_at dksX4_at_3 2 rfl rfl)
theorem dX4_at_71 : decode cX4_at 71 = .ok (.iadd, 1) := dk_96 (dk_at dksX4_at_3 3 rfl rfl)
theorem dX4_at_72 : decode cX4_at 72 = .ok (.laload, 1) := dk_47 (dk_at dksX4_at_3 4 rfl rfl)
theorem dX4_at_73 : decode cX4_at 73 = .ok (.lreturn, 1) := dk_173 (dk_at dksX4_at_3 5 rfl rfl)
abbrev cX4_told : ByteArray := prog_9_method_14_code
def yX4_told : MethodName := ⟨RX4, "told", "(II)I"⟩
def dkwX4_told_5 : List UInt8 := [160, 0, 12, 42, 180, 0, 16, 27, 46, 167, 0, 12, 29, 153, 0, 7, 4, 167, 0, 4, 3, 172]
abbrev dktX4_told_5 : List UInt8 := dkwX4_told_5 ++ []
def dkwX4_told_4 : List UInt8 := [180, 0, 7, 27, 46, 167, 0, 40, 28, 4, 160, 0, 12, 42, 180, 0, 13, 27, 46, 167, 0, 26, 28, 5]
abbrev dktX4_told_4 : List UInt8 := dkwX4_told_4 ++ dktX4_told_5
def dkwX4_told_3 : List UInt8 := [9, 148, 155, 0, 7, 4, 167, 0, 4, 3, 62, 132, 4, 1, 167, 255, 215, 28, 154, 0, 12, 42]
abbrev dktX4_told_3 : List UInt8 := dkwX4_told_3 ++ dktX4_told_4
def dkwX4_told_2 : List UInt8 := [180, 0, 13, 27, 46, 162, 0, 36, 29, 153, 0, 24, 42, 180, 0, 19, 16, 12, 27, 104, 21, 4, 96, 47]
abbrev dktX4_told_2 : List UInt8 := dkwX4_told_2 ++ dktX4_told_3
def dkwX4_told_1 : List UInt8 := [16, 253, 172, 42, 27, 182, 0, 72, 153, 0, 6, 16, 245, 172, 4, 62, 3, 54, 4, 21, 4, 42]
abbrev dktX4_told_1 : List UInt8 := dkwX4_told_1 ++ dktX4_told_2
def dkwX4_told_0 : List UInt8 := [42, 27, 182, 0, 68, 154, 0, 6, 16, 254, 172, 28, 133, 9, 20, 0, 58, 184, 0, 48, 154, 0, 6]
abbrev dktX4_told_0 : List UInt8 := dkwX4_told_0 ++ dktX4_told_1
theorem dksX4_told_0 : cX4_told.data.toList.drop 0 = dktX4_told_0 := by decide +kernel
theorem dksX4_told_1 : cX4_told.data.toList.drop 23 = dktX4_told_1 := dk_seg dksX4_told_0 23 rfl rfl
theorem dksX4_told_2 : cX4_told.data.toList.drop 45 = dktX4_told_2 := dk_seg dksX4_told_1 22 rfl rfl
theorem dksX4_told_3 : cX4_told.data.toList.drop 69 = dktX4_told_3 := dk_seg dksX4_told_2 24 rfl rfl
theorem dksX4_told_4 : cX4_told.data.toList.drop 91 = dktX4_told_4 := dk_seg dksX4_told_3 22 rfl rfl
theorem dksX4_told_5 : cX4_told.data.toList.drop 115 = dktX4_told_5 := dk_seg dksX4_told_4 24 rfl rfl
theorem dX4_told_0 : decode cX4_told 0 = .ok (.aload_n 0, 1) := dk_42 (dk_at dksX4_told_0 0 rfl rfl)
theorem dX4_told_1 : decode cX4_told 1 = .ok (.iload_n 1, 1) := dk_27 (dk_at dksX4_told_0 1 rfl rfl)
theorem dX4_told_2 : decode cX4_told 2 = .ok (.invokevirtual 68, 3) := dk_182 0 68 (dk_at dksX4_told_0 2 rfl rfl)
theorem dX4_told_5 : decode cX4_told 5 = .ok (.ifCond .ne 6, 3) := dk_154 0 6 (dk_at dksX4_told_0 5 rfl rfl)
theorem dX4_told_8 : decode cX4_told 8 = .ok (.bipush (-2), 2) := dk_16 254 (dk_at dksX4_told_0 8 rfl rfl)
theorem dX4_told_10 : decode cX4_told 10 = .ok (.ireturn, 1) := dk_172 (dk_at dksX4_told_0 10 rfl rfl)
theorem dX4_told_11 : decode cX4_told 11 = .ok (.iload_n 2, 1) := dk_28 (dk_at dksX4_told_0 11 rfl rfl)
theorem dX4_told_12 : decode cX4_told 12 = .ok (.i2l, 1) := dk_133 (dk_at dksX4_told_0 12 rfl rfl)
theorem dX4_told_13 : decode cX4_told 13 = .ok (.lconst 0, 1) := dk_9 (dk_at dksX4_told_0 13 rfl rfl)
theorem dX4_told_14 : decode cX4_told 14 = .ok (.ldc2_w 58, 3) := dk_20 0 58 (dk_at dksX4_told_0 14 rfl rfl)
theorem dX4_told_17 : decode cX4_told 17 = .ok (.invokestatic 48, 3) := dk_184 0 48 (dk_at dksX4_told_0 17 rfl rfl)
theorem dX4_told_20 : decode cX4_told 20 = .ok (.ifCond .ne 6, 3) := dk_154 0 6 (dk_at dksX4_told_0 20 rfl rfl)
theorem dX4_told_23 : decode cX4_told 23 = .ok (.bipush (-3), 2) := dk_16 253 (dk_at dksX4_told_1 0 rfl rfl)
theorem dX4_told_25 : decode cX4_told 25 = .ok (.ireturn, 1) := dk_172 (dk_at dksX4_told_1 2 rfl rfl)
theorem dX4_told_26 : decode cX4_told 26 = .ok (.aload_n 0, 1) := dk_42 (dk_at dksX4_told_1 3 rfl rfl)
theorem dX4_told_27 : decode cX4_told 27 = .ok (.iload_n 1, 1) := dk_27 (dk_at dksX4_told_1 4 rfl rfl)
theorem dX4_told_28 : decode cX4_told 28 = .ok (.invokevirtual 72, 3) := dk_182 0 72 (dk_at dksX4_told_1 5 rfl rfl)
theorem dX4_told_31 : decode cX4_told 31 = .ok (.ifCond .eq 6, 3) := dk_153 0 6 (dk_at dksX4_told_1 8 rfl rfl)
theorem dX4_told_34 : decode cX4_told 34 = .ok (.bipush (-11), 2) := dk_16 245 (dk_at dksX4_told_1 11 rfl rfl)
theorem dX4_told_36 : decode cX4_told 36 = .ok (.ireturn, 1) := dk_172 (dk_at dksX4_told_1 13 rfl rfl)
theorem dX4_told_37 : decode cX4_told 37 = .ok (.iconst 1, 1) := dk_4 (dk_at dksX4_told_1 14 rfl rfl)
theorem dX4_told_38 : decode cX4_told 38 = .ok (.istore_n 3, 1) := dk_62 (dk_at dksX4_told_1 15 rfl rfl)
theorem dX4_told_39 : decode cX4_told 39 = .ok (.iconst 0, 1) := dk_3 (dk_at dksX4_told_1 16 rfl rfl)
theorem dX4_told_40 : decode cX4_told 40 = .ok (.istore 4, 2) := dk_54 4 (dk_at dksX4_told_1 17 rfl rfl)
theorem dX4_told_42 : decode cX4_told 42 = .ok (.iload 4, 2) := dk_21 4 (dk_at dksX4_told_1 19 rfl rfl)
theorem dX4_told_44 : decode cX4_told 44 = .ok (.aload_n 0, 1) := dk_42 (dk_at dksX4_told_1 21 rfl rfl)
theorem dX4_told_45 : decode cX4_told 45 = .ok (.getfield 13, 3) := dk_180 0 13 (dk_at dksX4_told_2 0 rfl rfl)
theorem dX4_told_48 : decode cX4_told 48 = .ok (.iload_n 1, 1) := dk_27 (dk_at dksX4_told_2 3 rfl rfl)
theorem dX4_told_49 : decode cX4_told 49 = .ok (.iaload, 1) := dk_46 (dk_at dksX4_told_2 4 rfl rfl)
theorem dX4_told_50 : decode cX4_told 50 = .ok (.if_icmp .ge 36, 3) := dk_162 0 36 (dk_at dksX4_told_2 5 rfl rfl)
theorem dX4_told_53 : decode cX4_told 53 = .ok (.iload_n 3, 1) := dk_29 (dk_at dksX4_told_2 8 rfl rfl)
theorem dX4_told_54 : decode cX4_told 54 = .ok (.ifCond .eq 24, 3) := dk_153 0 24 (dk_at dksX4_told_2 9 rfl rfl)
theorem dX4_told_57 : decode cX4_told 57 = .ok (.aload_n 0, 1) := dk_42 (dk_at dksX4_told_2 12 rfl rfl)
theorem dX4_told_58 : decode cX4_told 58 = .ok (.getfield 19, 3) := dk_180 0 19 (dk_at dksX4_told_2 13 rfl rfl)
theorem dX4_told_61 : decode cX4_told 61 = .ok (.bipush 12, 2) := dk_16 12 (dk_at dksX4_told_2 16 rfl rfl)
theorem dX4_told_63 : decode cX4_told 63 = .ok (.iload_n 1, 1) := dk_27 (dk_at dksX4_told_2 18 rfl rfl)
theorem dX4_told_64 : decode cX4_told 64 = .ok (.imul, 1) := dk_104 (dk_at dksX4_told_2 19 rfl rfl)
theorem dX4_told_65 : decode cX4_told 65 = .ok (.iload 4, 2) := dk_21 4 (dk_at dksX4_told_2 20 rfl rfl)
theorem dX4_told_67 : decode cX4_told 67 = .ok (.iadd, 1) := dk_96 (dk_at dksX4_told_2 22 rfl rfl)
theorem dX4_told_68 : decode cX4_told 68 = .ok (.laload, 1) := dk_47 (dk_at dksX4_told_2 23 rfl rfl)
theorem dX4_told_69 : decode cX4_told 69 = .ok (.lconst 0, 1) := dk_9 (dk_at dksX4_told_3 0 rfl rfl)
theorem dX4_told_70 : decode cX4_told 70 = .ok (.lcmp, 1) := dk_148 (dk_at dksX4_told_3 1 rfl rfl)
theorem dX4_told_71 : decode cX4_told 71 = .ok (.ifCond .lt 7, 3) := dk_155 0 7 (dk_at dksX4_told_3 2 rfl rfl)
theorem dX4_told_74 : decode cX4_told 74 = .ok (.iconst 1, 1) := dk_4 (dk_at dksX4_told_3 5 rfl rfl)
theorem dX4_told_75 : decode cX4_told 75 = .ok (.goto 4, 3) := dk_167 0 4 (dk_at dksX4_told_3 6 rfl rfl)
theorem dX4_told_78 : decode cX4_told 78 = .ok (.iconst 0, 1) := dk_3 (dk_at dksX4_told_3 9 rfl rfl)
theorem dX4_told_79 : decode cX4_told 79 = .ok (.istore_n 3, 1) := dk_62 (dk_at dksX4_told_3 10 rfl rfl)
theorem dX4_told_80 : decode cX4_told 80 = .ok (.iinc 4 1, 3) := dk_132 4 1 (dk_at dksX4_told_3 11 rfl rfl)
theorem dX4_told_83 : decode cX4_told 83 = .ok (.goto (-41), 3) := dk_167 255 215 (dk_at dksX4_told_3 14 rfl rfl)
theorem dX4_told_86 : decode cX4_told 86 = .ok (.iload_n 2, 1) := dk_28 (dk_at dksX4_told_3 17 rfl rfl)
theorem dX4_told_87 : decode cX4_told 87 = .ok (.ifCond .ne 12, 3) := dk_154 0 12 (dk_at dksX4_told_3 18 rfl rfl)
theorem dX4_told_90 : decode cX4_told 90 = .ok (.aload_n 0, 1) := dk_42 (dk_at dksX4_told_3 21 rfl rfl)
theorem dX4_told_91 : decode cX4_told 91 = .ok (.getfield 7, 3) := dk_180 0 7 (dk_at dksX4_told_4 0 rfl rfl)
theorem dX4_told_94 : decode cX4_told 94 = .ok (.iload_n 1, 1) := dk_27 (dk_at dksX4_told_4 3 rfl rfl)
theorem dX4_told_95 : decode cX4_told 95 = .ok (.iaload, 1) := dk_46 (dk_at dksX4_told_4 4 rfl rfl)
theorem dX4_told_96 : decode cX4_told 96 = .ok (.goto 40, 3) := dk_167 0 40 (dk_at dksX4_told_4 5 rfl rfl)
theorem dX4_told_99 : decode cX4_told 99 = .ok (.iload_n 2, 1) := dk_28 (dk_at dksX4_told_4 8 rfl rfl)
theorem dX4_told_100 : decode cX4_told 100 = .ok (.iconst 1, 1) := dk_4 (dk_at dksX4_told_4 9 rfl rfl)
theorem dX4_told_101 : decode cX4_told 101 = .ok (.if_icmp .ne 12, 3) := dk_160 0 12 (dk_at dksX4_told_4 10 rfl rfl)
theorem dX4_told_104 : decode cX4_told 104 = .ok (.aload_n 0, 1) := dk_42 (dk_at dksX4_told_4 13 rfl rfl)
theorem dX4_told_105 : decode cX4_told 105 = .ok (.getfield 13, 3) := dk_180 0 13 (dk_at dksX4_told_4 14 rfl rfl)
theorem dX4_told_108 : decode cX4_told 108 = .ok (.iload_n 1, 1) := dk_27 (dk_at dksX4_told_4 17 rfl rfl)
theorem dX4_told_109 : decode cX4_told 109 = .ok (.iaload, 1) := dk_46 (dk_at dksX4_told_4 18 rfl rfl)
theorem dX4_told_110 : decode cX4_told 110 = .ok (.goto 26, 3) := dk_167 0 26 (dk_at dksX4_told_4 19 rfl rfl)
theorem dX4_told_113 : decode cX4_told 113 = .ok (.iload_n 2, 1) := dk_28 (dk_at dksX4_told_4 22 rfl rfl)
theorem dX4_told_114 : decode cX4_told 114 = .ok (.iconst 2, 1) := dk_5 (dk_at dksX4_told_4 23 rfl rfl)
theorem dX4_told_115 : decode cX4_told 115 = .ok (.if_icmp .ne 12, 3) := dk_160 0 12 (dk_at dksX4_told_5 0 rfl rfl)
theorem dX4_told_118 : decode cX4_told 118 = .ok (.aload_n 0, 1) := dk_42 (dk_at dksX4_told_5 3 rfl rfl)
theorem dX4_told_119 : decode cX4_told 119 = .ok (.getfield 16, 3) := dk_180 0 16 (dk_at dksX4_told_5 4 rfl rfl)
theorem dX4_told_122 : decode cX4_told 122 = .ok (.iload_n 1, 1) := dk_27 (dk_at dksX4_told_5 7 rfl rfl)
theorem dX4_told_123 : decode cX4_told 123 = .ok (.iaload, 1) := dk_46 (dk_at dksX4_told_5 8 rfl rfl)
theorem dX4_told_124 : decode cX4_told 124 = .ok (.goto 12, 3) := dk_167 0 12 (dk_at dksX4_told_5 9 rfl rfl)
theorem dX4_told_127 : decode cX4_told 127 = .ok (.iload_n 3, 1) := dk_29 (dk_at dksX4_told_5 12 rfl rfl)
theorem dX4_told_128 : decode cX4_told 128 = .ok (.ifCond .eq 7, 3) := dk_153 0 7 (dk_at dksX4_told_5 13 rfl rfl)
theorem dX4_told_131 : decode cX4_told 131 = .ok (.iconst 1, 1) := dk_4 (dk_at dksX4_told_5 16 rfl rfl)
theorem dX4_told_132 : decode cX4_told 132 = .ok (.goto 4, 3) := dk_167 0 4 (dk_at dksX4_told_5 17 rfl rfl)
theorem dX4_told_135 : decode cX4_told 135 = .ok (.iconst 0, 1) := dk_3 (dk_at dksX4_told_5 20 rfl rfl)
theorem dX4_told_136 : decode cX4_told 136 = .ok (.ireturn, 1) := dk_172 (dk_at dksX4_told_5 21 rfl rfl)
abbrev cX4_act : ByteArray := prog_9_method_21_code
def yX4_act : MethodName := ⟨RX4, "act", "(III)I"⟩
def dkwX4_act_13 : List UInt8 := [180, 0, 45, 104, 21, 7, 96, 22, 12, 80, 132, 7, 1, 167, 255, 88, 42, 182, 0, 64, 172]
abbrev dktX4_act_13 : List UInt8 := dkwX4_act_13 ++ []
def dkwX4_act_12 : List UInt8 := [182, 0, 114, 154, 0, 6, 16, 240, 172, 42, 182, 0, 118, 55, 12, 42, 180, 0, 19, 16, 12, 42]
abbrev dktX4_act_12 : List UInt8 := dkwX4_act_12 ++ dktX4_act_13
def dkwX4_act_11 : List UInt8 := [10, 182, 0, 108, 42, 22, 10, 27, 154, 0, 7, 10, 167, 0, 6, 20, 0, 112, 182, 0, 108, 42]
abbrev dktX4_act_11 : List UInt8 := dkwX4_act_11 ++ dktX4_act_12
def dkwX4_act_10 : List UInt8 := [153, 0, 8, 22, 8, 167, 0, 5, 22, 10, 55, 12, 27, 5, 162, 0, 47, 42, 182, 0, 105, 42, 22, 8]
abbrev dktX4_act_10 : List UInt8 := dkwX4_act_10 ++ dktX4_act_11
def dkwX4_act_9 : List UInt8 := [160, 0, 21, 22, 8, 22, 10, 148, 156, 0, 8, 22, 8, 167, 0, 20, 22, 10, 167, 0, 15, 21, 6]
abbrev dktX4_act_9 : List UInt8 := dkwX4_act_9 ++ dktX4_act_10
def dkwX4_act_8 : List UInt8 := [160, 0, 21, 22, 8, 22, 10, 148, 158, 0, 8, 22, 8, 167, 0, 43, 22, 10, 167, 0, 38, 27, 8]
abbrev dktX4_act_8 : List UInt8 := dkwX4_act_8 ++ dktX4_act_9
def dkwX4_act_7 : List UInt8 := [21, 7, 96, 47, 55, 8, 42, 180, 0, 19, 16, 12, 29, 104, 21, 7, 96, 47, 55, 10, 27, 7]
abbrev dktX4_act_7 : List UInt8 := dkwX4_act_7 ++ dktX4_act_8
def dkwX4_act_6 : List UInt8 := [54, 6, 3, 54, 7, 21, 7, 42, 180, 0, 16, 28, 46, 162, 0, 163, 42, 180, 0, 19, 16, 12, 28, 104]
abbrev dktX4_act_6 : List UInt8 := dkwX4_act_6 ++ dktX4_act_7
def dkwX4_act_5 : List UInt8 := [21, 5, 155, 0, 7, 4, 167, 0, 17, 3, 167, 0, 13, 21, 5, 157, 0, 7, 4, 167, 0, 4, 3]
abbrev dktX4_act_5 : List UInt8 := dkwX4_act_5 ++ dktX4_act_6
def dkwX4_act_4 : List UInt8 := [180, 0, 19, 16, 12, 29, 104, 42, 180, 0, 16, 28, 46, 182, 0, 101, 54, 5, 27, 5, 160, 0, 16]
abbrev dktX4_act_4 : List UInt8 := dkwX4_act_4 ++ dktX4_act_5
def dkwX4_act_3 : List UInt8 := [180, 0, 13, 28, 46, 42, 180, 0, 16, 28, 46, 182, 0, 60, 42, 42, 180, 0, 19, 16, 12, 28, 104, 42]
abbrev dktX4_act_3 : List UInt8 := dkwX4_act_3 ++ dktX4_act_4
def dkwX4_act_2 : List UInt8 := [42, 28, 29, 182, 0, 97, 54, 4, 21, 4, 156, 0, 6, 21, 4, 172, 42, 42, 180, 0, 7, 28, 46, 42]
abbrev dktX4_act_2 : List UInt8 := dkwX4_act_2 ++ dktX4_act_3
def dkwX4_act_1 : List UInt8 := [20, 0, 95, 184, 0, 48, 154, 0, 6, 16, 253, 172, 42, 180, 0, 45, 16, 60, 160, 0, 6, 16, 252, 172]
abbrev dktX4_act_1 : List UInt8 := dkwX4_act_1 ++ dktX4_act_2
def dkwX4_act_0 : List UInt8 := [42, 28, 182, 0, 68, 153, 0, 11, 42, 29, 182, 0, 68, 154, 0, 6, 16, 254, 172, 27, 133, 9]
abbrev dktX4_act_0 : List UInt8 := dkwX4_act_0 ++ dktX4_act_1
theorem dksX4_act_0 : cX4_act.data.toList.drop 0 = dktX4_act_0 := by decide +kernel
theorem dksX4_act_1 : cX4_act.data.toList.drop 22 = dktX4_act_1 := dk_seg dksX4_act_0 22 rfl rfl
theorem dksX4_act_2 : cX4_act.data.toList.drop 46 = dktX4_act_2 := dk_seg dksX4_act_1 24 rfl rfl
theorem dksX4_act_3 : cX4_act.data.toList.drop 70 = dktX4_act_3 := dk_seg dksX4_act_2 24 rfl rfl
theorem dksX4_act_4 : cX4_act.data.toList.drop 94 = dktX4_act_4 := dk_seg dksX4_act_3 24 rfl rfl
theorem dksX4_act_5 : cX4_act.data.toList.drop 117 = dktX4_act_5 := dk_seg dksX4_act_4 23 rfl rfl
theorem dksX4_act_6 : cX4_act.data.toList.drop 140 = dktX4_act_6 := dk_seg dksX4_act_5 23 rfl rfl
theorem dksX4_act_7 : cX4_act.data.toList.drop 164 = dktX4_act_7 := dk_seg dksX4_act_6 24 rfl rfl
theorem dksX4_act_8 : cX4_act.data.toList.drop 186 = dktX4_act_8 := dk_seg dksX4_act_7 22 rfl rfl
theorem dksX4_act_9 : cX4_act.data.toList.drop 209 = dktX4_act_9 := dk_seg dksX4_act_8 23 rfl rfl
theorem dksX4_act_10 : cX4_act.data.toList.drop 232 = dktX4_act_10 := dk_seg dksX4_act_9 23 rfl rfl
theorem dksX4_act_11 : cX4_act.data.toList.drop 256 = dktX4_act_11 := dk_seg dksX4_act_10 24 rfl rfl
theorem dksX4_act_12 : cX4_act.data.toList.drop 278 = dktX4_act_12 := dk_seg dksX4_act_11 22 rfl rfl
theorem dksX4_act_13 : cX4_act.data.toList.drop 300 = dktX4_act_13 := dk_seg dksX4_act_12 22 rfl rfl
theorem dX4_act_0 : decode cX4_act 0 = .ok (.aload_n 0, 1) := dk_42 (dk_at dksX4_act_0 0 rfl rfl)
theorem dX4_act_1 : decode cX4_act 1 = .ok (.iload_n 2, 1) := dk_28 (dk_at dksX4_act_0 1 rfl rfl)
theorem dX4_act_2 : decode cX4_act 2 = .ok (.invokevirtual 68, 3) := dk_182 0 68 (dk_at dksX4_act_0 2 rfl rfl)
theorem dX4_act_5 : decode cX4_act 5 = .ok (.ifCond .eq 11, 3) := dk_153 0 11 (dk_at dksX4_act_0 5 rfl rfl)
theorem dX4_act_8 : decode cX4_act 8 = .ok (.aload_n 0, 1) := dk_42 (dk_at dksX4_act_0 8 rfl rfl)
theorem dX4_act_9 : decode cX4_act 9 = .ok (.iload_n 3, 1) := dk_29 (dk_at dksX4_act_0 9 rfl rfl)
theorem dX4_act_10 : decode cX4_act 10 = .ok (.invokevirtual 68, 3) := dk_182 0 68 (dk_at dksX4_act_0 10 rfl rfl)
theorem dX4_act_13 : decode cX4_act 13 = .ok (.ifCond .ne 6, 3) := dk_154 0 6 (dk_at dksX4_act_0 13 rfl rfl)
theorem dX4_act_16 : decode cX4_act 16 = .ok (.bipush (-2), 2) := dk_16 254 (dk_at dksX4_act_0 16 rfl rfl)
theorem dX4_act_18 : decode cX4_act 18 = .ok (.ireturn, 1) := dk_172 (dk_at dksX4_act_0 18 rfl rfl)
theorem dX4_act_19 : decode cX4_act 19 = .ok (.iload_n 1, 1) := dk_27 (dk_at dksX4_act_0 19 rfl rfl)
theorem dX4_act_20 : decode cX4_act 20 = .ok (.i2l, 1) := dk_133 (dk_at dksX4_act_0 20 rfl rfl)
theorem dX4_act_21 : decode cX4_act 21 = .ok (.lconst 0, 1) := dk_9 (dk_at dksX4_act_0 21 rfl rfl)
theorem dX4_act_22 : decode cX4_act 22 = .ok (.ldc2_w 95, 3) := dk_20 0 95 (dk_at dksX4_act_1 0 rfl rfl)
theorem dX4_act_25 : decode cX4_act 25 = .ok (.invokestatic 48, 3) := dk_184 0 48 (dk_at dksX4_act_1 3 rfl rfl)
theorem dX4_act_28 : decode cX4_act 28 = .ok (.ifCond .ne 6, 3) := dk_154 0 6 (dk_at dksX4_act_1 6 rfl rfl)
theorem dX4_act_31 : decode cX4_act 31 = .ok (.bipush (-3), 2) := dk_16 253 (dk_at dksX4_act_1 9 rfl rfl)
theorem dX4_act_33 : decode cX4_act 33 = .ok (.ireturn, 1) := dk_172 (dk_at dksX4_act_1 11 rfl rfl)
theorem dX4_act_34 : decode cX4_act 34 = .ok (.aload_n 0, 1) := dk_42 (dk_at dksX4_act_1 12 rfl rfl)
theorem dX4_act_35 : decode cX4_act 35 = .ok (.getfield 45, 3) := dk_180 0 45 (dk_at dksX4_act_1 13 rfl rfl)
theorem dX4_act_38 : decode cX4_act 38 = .ok (.bipush 60, 2) := dk_16 60 (dk_at dksX4_act_1 16 rfl rfl)
theorem dX4_act_40 : decode cX4_act 40 = .ok (.if_icmp .ne 6, 3) := dk_160 0 6 (dk_at dksX4_act_1 18 rfl rfl)
theorem dX4_act_43 : decode cX4_act 43 = .ok (.bipush (-4), 2) := dk_16 252 (dk_at dksX4_act_1 21 rfl rfl)
theorem dX4_act_45 : decode cX4_act 45 = .ok (.ireturn, 1) := dk_172 (dk_at dksX4_act_1 23 rfl rfl)
theorem dX4_act_46 : decode cX4_act 46 = .ok (.aload_n 0, 1) := dk_42 (dk_at dksX4_act_2 0 rfl rfl)
theorem dX4_act_47 : decode cX4_act 47 = .ok (.iload_n 2, 1) := dk_28 (dk_at dksX4_act_2 1 rfl rfl)
theorem dX4_act_48 : decode cX4_act 48 = .ok (.iload_n 3, 1) := dk_29 (dk_at dksX4_act_2 2 rfl rfl)
theorem dX4_act_49 : decode cX4_act 49 = .ok (.invokevirtual 97, 3) := dk_182 0 97 (dk_at dksX4_act_2 3 rfl rfl)
theorem dX4_act_52 : decode cX4_act 52 = .ok (.istore 4, 2) := dk_54 4 (dk_at dksX4_act_2 6 rfl rfl)
theorem dX4_act_54 : decode cX4_act 54 = .ok (.iload 4, 2) := dk_21 4 (dk_at dksX4_act_2 8 rfl rfl)
theorem dX4_act_56 : decode cX4_act 56 = .ok (.ifCond .ge 6, 3) := dk_156 0 6 (dk_at dksX4_act_2 10 rfl rfl)
theorem dX4_act_59 : decode cX4_act 59 = .ok (.iload 4, 2) := dk_21 4 (dk_at dksX4_act_2 13 rfl rfl)
theorem dX4_act_61 : decode cX4_act 61 = .ok (.ireturn, 1) := dk_172 (dk_at dksX4_act_2 15 rfl rfl)
theorem dX4_act_62 : decode cX4_act 62 = .ok (.aload_n 0, 1) := dk_42 (dk_at dksX4_act_2 16 rfl rfl)
theorem dX4_act_63 : decode cX4_act 63 = .ok (.aload_n 0, 1) := dk_42 (dk_at dksX4_act_2 17 rfl rfl)
theorem dX4_act_64 : decode cX4_act 64 = .ok (.getfield 7, 3) := dk_180 0 7 (dk_at dksX4_act_2 18 rfl rfl)
theorem dX4_act_67 : decode cX4_act 67 = .ok (.iload_n 2, 1) := dk_28 (dk_at dksX4_act_2 21 rfl rfl)
theorem dX4_act_68 : decode cX4_act 68 = .ok (.iaload, 1) := dk_46 (dk_at dksX4_act_2 22 rfl rfl)
theorem dX4_act_69 : decode cX4_act 69 = .ok (.aload_n 0, 1) := dk_42 (dk_at dksX4_act_2 23 rfl rfl)
theorem dX4_act_70 : decode cX4_act 70 = .ok (.getfield 13, 3) := dk_180 0 13 (dk_at dksX4_act_3 0 rfl rfl)
theorem dX4_act_73 : decode cX4_act 73 = .ok (.iload_n 2, 1) := dk_28 (dk_at dksX4_act_3 3 rfl rfl)
theorem dX4_act_74 : decode cX4_act 74 = .ok (.iaload, 1) := dk_46 (dk_at dksX4_act_3 4 rfl rfl)
theorem dX4_act_75 : decode cX4_act 75 = .ok (.aload_n 0, 1) := dk_42 (dk_at dksX4_act_3 5 rfl rfl)
theorem dX4_act_76 : decode cX4_act 76 = .ok (.getfield 16, 3) := dk_180 0 16 (dk_at dksX4_act_3 6 rfl rfl)
theorem dX4_act_79 : decode cX4_act 79 = .ok (.iload_n 2, 1) := dk_28 (dk_at dksX4_act_3 9 rfl rfl)
theorem dX4_act_80 : decode cX4_act 80 = .ok (.iaload, 1) := dk_46 (dk_at dksX4_act_3 10 rfl rfl)
theorem dX4_act_81 : decode cX4_act 81 = .ok (.invokevirtual 60, 3) := dk_182 0 60 (dk_at dksX4_act_3 11 rfl rfl)
theorem dX4_act_84 : decode cX4_act 84 = .ok (.aload_n 0, 1) := dk_42 (dk_at dksX4_act_3 14 rfl rfl)
theorem dX4_act_85 : decode cX4_act 85 = .ok (.aload_n 0, 1) := dk_42 (dk_at dksX4_act_3 15 rfl rfl)
theorem dX4_act_86 : decode cX4_act 86 = .ok (.getfield 19, 3) := dk_180 0 19 (dk_at dksX4_act_3 16 rfl rfl)
theorem dX4_act_89 : decode cX4_act 89 = .ok (.bipush 12, 2) := dk_16 12 (dk_at dksX4_act_3 19 rfl rfl)
theorem dX4_act_91 : decode cX4_act 91 = .ok (.iload_n 2, 1) := dk_28 (dk_at dksX4_act_3 21 rfl rfl)
theorem dX4_act_92 : decode cX4_act 92 = .ok (.imul, 1) := dk_104 (dk_at dksX4_act_3 22 rfl rfl)
theorem dX4_act_93 : decode cX4_act 93 = .ok (.aload_n 0, 1) := dk_42 (dk_at dksX4_act_3 23 rfl rfl)
theorem dX4_act_94 : decode cX4_act 94 = .ok (.getfield 19, 3) := dk_180 0 19 (dk_at dksX4_act_4 0 rfl rfl)
theorem dX4_act_97 : decode cX4_act 97 = .ok (.bipush 12, 2) := dk_16 12 (dk_at dksX4_act_4 3 rfl rfl)
theorem dX4_act_99 : decode cX4_act 99 = .ok (.iload_n 3, 1) := dk_29 (dk_at dksX4_act_4 5 rfl rfl)
theorem dX4_act_100 : decode cX4_act 100 = .ok (.imul, 1) := dk_104 (dk_at dksX4_act_4 6 rfl rfl)
theorem dX4_act_101 : decode cX4_act 101 = .ok (.aload_n 0, 1) := dk_42 (dk_at dksX4_act_4 7 rfl rfl)
theorem dX4_act_102 : decode cX4_act 102 = .ok (.getfield 16, 3) := dk_180 0 16 (dk_at dksX4_act_4 8 rfl rfl)
theorem dX4_act_105 : decode cX4_act 105 = .ok (.iload_n 2, 1) := dk_28 (dk_at dksX4_act_4 11 rfl rfl)
theorem dX4_act_106 : decode cX4_act 106 = .ok (.iaload, 1) := dk_46 (dk_at dksX4_act_4 12 rfl rfl)
theorem dX4_act_107 : decode cX4_act 107 = .ok (.invokevirtual 101, 3) := dk_182 0 101 (dk_at dksX4_act_4 13 rfl rfl)
theorem dX4_act_110 : decode cX4_act 110 = .ok (.istore 5, 2) := dk_54 5 (dk_at dksX4_act_4 16 rfl rfl)
theorem dX4_act_112 : decode cX4_act 112 = .ok (.iload_n 1, 1) := dk_27 (dk_at dksX4_act_4 18 rfl rfl)
theorem dX4_act_113 : decode cX4_act 113 = .ok (.iconst 2, 1) := dk_5 (dk_at dksX4_act_4 19 rfl rfl)
theorem dX4_act_114 : decode cX4_act 114 = .ok (.if_icmp .ne 16, 3) := dk_160 0 16 (dk_at dksX4_act_4 20 rfl rfl)
theorem dX4_act_117 : decode cX4_act 117 = .ok (.iload 5, 2) := dk_21 5 (dk_at dksX4_act_5 0 rfl rfl)
theorem dX4_act_119 : decode cX4_act 119 = .ok (.ifCond .lt 7, 3) := dk_155 0 7 (dk_at dksX4_act_5 2 rfl rfl)
theorem dX4_act_122 : decode cX4_act 122 = .ok (.iconst 1, 1) := dk_4 (dk_at dksX4_act_5 5 rfl rfl)
theorem dX4_act_123 : decode cX4_act 123 = .ok (.goto 17, 3) := dk_167 0 17 (dk_at dksX4_act_5 6 rfl rfl)
theorem dX4_act_126 : decode cX4_act 126 = .ok (.iconst 0, 1) := dk_3 (dk_at dksX4_act_5 9 rfl rfl)
theorem dX4_act_127 : decode cX4_act 127 = .ok (.goto 13, 3) := dk_167 0 13 (dk_at dksX4_act_5 10 rfl rfl)
theorem dX4_act_130 : decode cX4_act 130 = .ok (.iload 5, 2) := dk_21 5 (dk_at dksX4_act_5 13 rfl rfl)
theorem dX4_act_132 : decode cX4_act 132 = .ok (.ifCond .gt 7, 3) := dk_157 0 7 (dk_at dksX4_act_5 15 rfl rfl)
theorem dX4_act_135 : decode cX4_act 135 = .ok (.iconst 1, 1) := dk_4 (dk_at dksX4_act_5 18 rfl rfl)
theorem dX4_act_136 : decode cX4_act 136 = .ok (.goto 4, 3) := dk_167 0 4 (dk_at dksX4_act_5 19 rfl rfl)
theorem dX4_act_139 : decode cX4_act 139 = .ok (.iconst 0, 1) := dk_3 (dk_at dksX4_act_5 22 rfl rfl)
theorem dX4_act_140 : decode cX4_act 140 = .ok (.istore 6, 2) := dk_54 6 (dk_at dksX4_act_6 0 rfl rfl)
theorem dX4_act_142 : decode cX4_act 142 = .ok (.iconst 0, 1) := dk_3 (dk_at dksX4_act_6 2 rfl rfl)
theorem dX4_act_143 : decode cX4_act 143 = .ok (.istore 7, 2) := dk_54 7 (dk_at dksX4_act_6 3 rfl rfl)
theorem dX4_act_145 : decode cX4_act 145 = .ok (.iload 7, 2) := dk_21 7 (dk_at dksX4_act_6 5 rfl rfl)
theorem dX4_act_147 : decode cX4_act 147 = .ok (.aload_n 0, 1) := dk_42 (dk_at dksX4_act_6 7 rfl rfl)
theorem dX4_act_148 : decode cX4_act 148 = .ok (.getfield 16, 3) := dk_180 0 16 (dk_at dksX4_act_6 8 rfl rfl)
theorem dX4_act_151 : decode cX4_act 151 = .ok (.iload_n 2, 1) := dk_28 (dk_at dksX4_act_6 11 rfl rfl)
theorem dX4_act_152 : decode cX4_act 152 = .ok (.iaload, 1) := dk_46 (dk_at dksX4_act_6 12 rfl rfl)
theorem dX4_act_153 : decode cX4_act 153 = .ok (.if_icmp .ge 163, 3) := dk_162 0 163 (dk_at dksX4_act_6 13 rfl rfl)
theorem dX4_act_156 : decode cX4_act 156 = .ok (.aload_n 0, 1) := dk_42 (dk_at dksX4_act_6 16 rfl rfl)
theorem dX4_act_157 : decode cX4_act 157 = .ok (.getfield 19, 3) := dk_180 0 19 (dk_at dksX4_act_6 17 rfl rfl)
theorem dX4_act_160 : decode cX4_act 160 = .ok (.bipush 12, 2) := dk_16 12 (dk_at dksX4_act_6 20 rfl rfl)
theorem dX4_act_162 : decode cX4_act 162 = .ok (.iload_n 2, 1) := dk_28 (dk_at dksX4_act_6 22 rfl rfl)
theorem dX4_act_163 : decode cX4_act 163 = .ok (.imul, 1) := dk_104 (dk_at dksX4_act_6 23 rfl rfl)
theorem dX4_act_164 : decode cX4_act 164 = .ok (.iload 7, 2) := dk_21 7 (dk_at dksX4_act_7 0 rfl rfl)
theorem dX4_act_166 : decode cX4_act 166 = .ok (.iadd, 1) := dk_96 (dk_at dksX4_act_7 2 rfl rfl)
theorem dX4_act_167 : decode cX4_act 167 = .ok (.laload, 1) := dk_47 (dk_at dksX4_act_7 3 rfl rfl)
theorem dX4_act_168 : decode cX4_act 168 = .ok (.lstore 8, 2) := dk_55 8 (dk_at dksX4_act_7 4 rfl rfl)
theorem dX4_act_170 : decode cX4_act 170 = .ok (.aload_n 0, 1) := dk_42 (dk_at dksX4_act_7 6 rfl rfl)
theorem dX4_act_171 : decode cX4_act 171 = .ok (.getfield 19, 3) := dk_180 0 19 (dk_at dksX4_act_7 7 rfl rfl)
theorem dX4_act_174 : decode cX4_act 174 = .ok (.bipush 12, 2) := dk_16 12 (dk_at dksX4_act_7 10 rfl rfl)
theorem dX4_act_176 : decode cX4_act 176 = .ok (.iload_n 3, 1) := dk_29 (dk_at dksX4_act_7 12 rfl rfl)
theorem dX4_act_177 : decode cX4_act 177 = .ok (.imul, 1) := dk_104 (dk_at dksX4_act_7 13 rfl rfl)
theorem dX4_act_178 : decode cX4_act 178 = .ok (.iload 7, 2) := dk_21 7 (dk_at dksX4_act_7 14 rfl rfl)
theorem dX4_act_180 : decode cX4_act 180 = .ok (.iadd, 1) := dk_96 (dk_at dksX4_act_7 16 rfl rfl)
theorem dX4_act_181 : decode cX4_act 181 = .ok (.laload, 1) := dk_47 (dk_at dksX4_act_7 17 rfl rfl)
theorem dX4_act_182 : decode cX4_act 182 = .ok (.lstore 10, 2) := dk_55 10 (dk_at dksX4_act_7 18 rfl rfl)
theorem dX4_act_184 : decode cX4_act 184 = .ok (.iload_n 1, 1) := dk_27 (dk_at dksX4_act_7 20 rfl rfl)
theorem dX4_act_185 : decode cX4_act 185 = .ok (.iconst 4, 1) := dk_7 (dk_at dksX4_act_7 21 rfl rfl)
theorem dX4_act_186 : decode cX4_act 186 = .ok (.if_icmp .ne 21, 3) := dk_160 0 21 (dk_at dksX4_act_8 0 rfl rfl)
theorem dX4_act_189 : decode cX4_act 189 = .ok (.lload 8, 2) := dk_22 8 (dk_at dksX4_act_8 3 rfl rfl)
theorem dX4_act_191 : decode cX4_act 191 = .ok (.lload 10, 2) := dk_22 10 (dk_at dksX4_act_8 5 rfl rfl)
theorem dX4_act_193 : decode cX4_act 193 = .ok (.lcmp, 1) := dk_148 (dk_at dksX4_act_8 7 rfl rfl)
theorem dX4_act_194 : decode cX4_act 194 = .ok (.ifCond .le 8, 3) := dk_158 0 8 (dk_at dksX4_act_8 8 rfl rfl)
theorem dX4_act_197 : decode cX4_act 197 = .ok (.lload 8, 2) := dk_22 8 (dk_at dksX4_act_8 11 rfl rfl)
theorem dX4_act_199 : decode cX4_act 199 = .ok (.goto 43, 3) := dk_167 0 43 (dk_at dksX4_act_8 13 rfl rfl)
theorem dX4_act_202 : decode cX4_act 202 = .ok (.lload 10, 2) := dk_22 10 (dk_at dksX4_act_8 16 rfl rfl)
theorem dX4_act_204 : decode cX4_act 204 = .ok (.goto 38, 3) := dk_167 0 38 (dk_at dksX4_act_8 18 rfl rfl)
theorem dX4_act_207 : decode cX4_act 207 = .ok (.iload_n 1, 1) := dk_27 (dk_at dksX4_act_8 21 rfl rfl)
theorem dX4_act_208 : decode cX4_act 208 = .ok (.iconst 5, 1) := dk_8 (dk_at dksX4_act_8 22 rfl rfl)
theorem dX4_act_209 : decode cX4_act 209 = .ok (.if_icmp .ne 21, 3) := dk_160 0 21 (dk_at dksX4_act_9 0 rfl rfl)
theorem dX4_act_212 : decode cX4_act 212 = .ok (.lload 8, 2) := dk_22 8 (dk_at dksX4_act_9 3 rfl rfl)
theorem dX4_act_214 : decode cX4_act 214 = .ok (.lload 10, 2) := dk_22 10 (dk_at dksX4_act_9 5 rfl rfl)
theorem dX4_act_216 : decode cX4_act 216 = .ok (.lcmp, 1) := dk_148 (dk_at dksX4_act_9 7 rfl rfl)
theorem dX4_act_217 : decode cX4_act 217 = .ok (.ifCond .ge 8, 3) := dk_156 0 8 (dk_at dksX4_act_9 8 rfl rfl)
theorem dX4_act_220 : decode cX4_act 220 = .ok (.lload 8, 2) := dk_22 8 (dk_at dksX4_act_9 11 rfl rfl)
theorem dX4_act_222 : decode cX4_act 222 = .ok (.goto 20, 3) := dk_167 0 20 (dk_at dksX4_act_9 13 rfl rfl)
theorem dX4_act_225 : decode cX4_act 225 = .ok (.lload 10, 2) := dk_22 10 (dk_at dksX4_act_9 16 rfl rfl)
theorem dX4_act_227 : decode cX4_act 227 = .ok (.goto 15, 3) := dk_167 0 15 (dk_at dksX4_act_9 18 rfl rfl)
theorem dX4_act_230 : decode cX4_act 230 = .ok (.iload 6, 2) := dk_21 6 (dk_at dksX4_act_9 21 rfl rfl)
theorem dX4_act_232 : decode cX4_act 232 = .ok (.ifCond .eq 8, 3) := dk_153 0 8 (dk_at dksX4_act_10 0 rfl rfl)
theorem dX4_act_235 : decode cX4_act 235 = .ok (.lload 8, 2) := dk_22 8 (dk_at dksX4_act_10 3 rfl rfl)
theorem dX4_act_237 : decode cX4_act 237 = .ok (.goto 5, 3) := dk_167 0 5 (dk_at dksX4_act_10 5 rfl rfl)
theorem dX4_act_240 : decode cX4_act 240 = .ok (.lload 10, 2) := dk_22 10 (dk_at dksX4_act_10 8 rfl rfl)
theorem dX4_act_242 : decode cX4_act 242 = .ok (.lstore 12, 2) := dk_55 12 (dk_at dksX4_act_10 10 rfl rfl)
theorem dX4_act_244 : decode cX4_act 244 = .ok (.iload_n 1, 1) := dk_27 (dk_at dksX4_act_10 12 rfl rfl)
theorem dX4_act_245 : decode cX4_act 245 = .ok (.iconst 2, 1) := dk_5 (dk_at dksX4_act_10 13 rfl rfl)
theorem dX4_act_246 : decode cX4_act 246 = .ok (.if_icmp .ge 47, 3) := dk_162 0 47 (dk_at dksX4_act_10 14 rfl rfl)
theorem dX4_act_249 : decode cX4_act 249 = .ok (.aload_n 0, 1) := dk_42 (dk_at dksX4_act_10 17 rfl rfl)
theorem dX4_act_250 : decode cX4_act 250 = .ok (.invokevirtual 105, 3) := dk_182 0 105 (dk_at dksX4_act_10 18 rfl rfl)
theorem dX4_act_253 : decode cX4_act 253 = .ok (.aload_n 0, 1) := dk_42 (dk_at dksX4_act_10 21 rfl rfl)
theorem dX4_act_254 : decode cX4_act 254 = .ok (.lload 8, 2) := dk_22 8 (dk_at dksX4_act_10 22 rfl rfl)
theorem dX4_act_256 : decode cX4_act 256 = .ok (.lconst 1, 1) := dk_10 (dk_at dksX4_act_11 0 rfl rfl)
theorem dX4_act_257 : decode cX4_act 257 = .ok (.invokevirtual 108, 3) := dk_182 0 108 (dk_at dksX4_act_11 1 rfl rfl)
theorem dX4_act_260 : decode cX4_act 260 = .ok (.aload_n 0, 1) := dk_42 (dk_at dksX4_act_11 4 rfl rfl)
theorem dX4_act_261 : decode cX4_act 261 = .ok (.lload 10, 2) := dk_22 10 (dk_at dksX4_act_11 5 rfl rfl)
theorem dX4_act_263 : decode cX4_act 263 = .ok (.iload_n 1, 1) := dk_27 (dk_at dksX4_act_11 7 rfl rfl)
theorem dX4_act_264 : decode cX4_act 264 = .ok (.ifCond .ne 7, 3) := dk_154 0 7 (dk_at dksX4_act_11 8 rfl rfl)
theorem dX4_act_267 : decode cX4_act 267 = .ok (.lconst 1, 1) := dk_10 (dk_at dksX4_act_11 11 rfl rfl)
theorem dX4_act_268 : decode cX4_act 268 = .ok (.goto 6, 3) := dk_167 0 6 (dk_at dksX4_act_11 12 rfl rfl)
theorem dX4_act_271 : decode cX4_act 271 = .ok (.ldc2_w 112, 3) := dk_20 0 112 (dk_at dksX4_act_11 15 rfl rfl)
theorem dX4_act_274 : decode cX4_act 274 = .ok (.invokevirtual 108, 3) := dk_182 0 108 (dk_at dksX4_act_11 18 rfl rfl)
theorem dX4_act_277 : decode cX4_act 277 = .ok (.aload_n 0, 1) := dk_42 (dk_at dksX4_act_11 21 rfl rfl)
theorem dX4_act_278 : decode cX4_act 278 = .ok (.invokevirtual 114, 3) := dk_182 0 114 (dk_at dksX4_act_12 0 rfl rfl)
theorem dX4_act_281 : decode cX4_act 281 = .ok (.ifCond .ne 6, 3) := dk_154 0 6 (dk_at dksX4_act_12 3 rfl rfl)
theorem dX4_act_284 : decode cX4_act 284 = .ok (.bipush (-16), 2) := dk_16 240 (dk_at dksX4_act_12 6 rfl rfl)
theorem dX4_act_286 : decode cX4_act 286 = .ok (.ireturn, 1) := dk_172 (dk_at dksX4_act_12 8 rfl rfl)
theorem dX4_act_287 : decode cX4_act 287 = .ok (.aload_n 0, 1) := dk_42 (dk_at dksX4_act_12 9 rfl rfl)
theorem dX4_act_288 : decode cX4_act 288 = .ok (.invokevirtual 118, 3) := dk_182 0 118 (dk_at dksX4_act_12 10 rfl rfl)
theorem dX4_act_291 : decode cX4_act 291 = .ok (.lstore 12, 2) := dk_55 12 (dk_at dksX4_act_12 13 rfl rfl)
theorem dX4_act_293 : decode cX4_act 293 = .ok (.aload_n 0, 1) := dk_42 (dk_at dksX4_act_12 15 rfl rfl)
theorem dX4_act_294 : decode cX4_act 294 = .ok (.getfield 19, 3) := dk_180 0 19 (dk_at dksX4_act_12 16 rfl rfl)
theorem dX4_act_297 : decode cX4_act 297 = .ok (.bipush 12, 2) := dk_16 12 (dk_at dksX4_act_12 19 rfl rfl)
theorem dX4_act_299 : decode cX4_act 299 = .ok (.aload_n 0, 1) := dk_42 (dk_at dksX4_act_12 21 rfl rfl)
theorem dX4_act_300 : decode cX4_act 300 = .ok (.getfield 45, 3) := dk_180 0 45 (dk_at dksX4_act_13 0 rfl rfl)
theorem dX4_act_303 : decode cX4_act 303 = .ok (.imul, 1) := dk_104 (dk_at dksX4_act_13 3 rfl rfl)
theorem dX4_act_304 : decode cX4_act 304 = .ok (.iload 7, 2) := dk_21 7 (dk_at dksX4_act_13 4 rfl rfl)
theorem dX4_act_306 : decode cX4_act 306 = .ok (.iadd, 1) := dk_96 (dk_at dksX4_act_13 6 rfl rfl)
theorem dX4_act_307 : decode cX4_act 307 = .ok (.lload 12, 2) := dk_22 12 (dk_at dksX4_act_13 7 rfl rfl)
theorem dX4_act_309 : decode cX4_act 309 = .ok (.lastore, 1) := dk_80 (dk_at dksX4_act_13 9 rfl rfl)
theorem dX4_act_310 : decode cX4_act 310 = .ok (.iinc 7 1, 3) := dk_132 7 1 (dk_at dksX4_act_13 10 rfl rfl)
theorem dX4_act_313 : decode cX4_act 313 = .ok (.goto (-168), 3) := dk_167 255 88 (dk_at dksX4_act_13 13 rfl rfl)
theorem dX4_act_316 : decode cX4_act 316 = .ok (.aload_n 0, 1) := dk_42 (dk_at dksX4_act_13 16 rfl rfl)
theorem dX4_act_317 : decode cX4_act 317 = .ok (.invokevirtual 64, 3) := dk_182 0 64 (dk_at dksX4_act_13 17 rfl rfl)
theorem dX4_act_320 : decode cX4_act 320 = .ok (.ireturn, 1) := dk_172 (dk_at dksX4_act_13 20 rfl rfl)
abbrev cX4_refusal : ByteArray := prog_9_method_20_code
def yX4_refusal : MethodName := ⟨RX4, "refusal", "(II)I"⟩
def dkwX4_refusal_1 : List UInt8 := [182, 0, 91, 153, 0, 7, 3, 167, 0, 5, 16, 244, 172]
abbrev dktX4_refusal_1 : List UInt8 := dkwX4_refusal_1 ++ []
def dkwX4_refusal_0 : List UInt8 := [42, 27, 182, 0, 72, 154, 0, 11, 42, 28, 182, 0, 72, 153, 0, 8, 16, 245, 167, 0, 18, 42, 27, 28]
abbrev dktX4_refusal_0 : List UInt8 := dkwX4_refusal_0 ++ dktX4_refusal_1
theorem dksX4_refusal_0 : cX4_refusal.data.toList.drop 0 = dktX4_refusal_0 := by decide +kernel
theorem dksX4_refusal_1 : cX4_refusal.data.toList.drop 24 = dktX4_refusal_1 := dk_seg dksX4_refusal_0 24 rfl rfl
theorem dX4_refusal_0 : decode cX4_refusal 0 = .ok (.aload_n 0, 1) := dk_42 (dk_at dksX4_refusal_0 0 rfl rfl)
theorem dX4_refusal_1 : decode cX4_refusal 1 = .ok (.iload_n 1, 1) := dk_27 (dk_at dksX4_refusal_0 1 rfl rfl)
theorem dX4_refusal_2 : decode cX4_refusal 2 = .ok (.invokevirtual 72, 3) := dk_182 0 72 (dk_at dksX4_refusal_0 2 rfl rfl)
theorem dX4_refusal_5 : decode cX4_refusal 5 = .ok (.ifCond .ne 11, 3) := dk_154 0 11 (dk_at dksX4_refusal_0 5 rfl rfl)
theorem dX4_refusal_8 : decode cX4_refusal 8 = .ok (.aload_n 0, 1) := dk_42 (dk_at dksX4_refusal_0 8 rfl rfl)
theorem dX4_refusal_9 : decode cX4_refusal 9 = .ok (.iload_n 2, 1) := dk_28 (dk_at dksX4_refusal_0 9 rfl rfl)
theorem dX4_refusal_10 : decode cX4_refusal 10 = .ok (.invokevirtual 72, 3) := dk_182 0 72 (dk_at dksX4_refusal_0 10 rfl rfl)
theorem dX4_refusal_13 : decode cX4_refusal 13 = .ok (.ifCond .eq 8, 3) := dk_153 0 8 (dk_at dksX4_refusal_0 13 rfl rfl)
theorem dX4_refusal_16 : decode cX4_refusal 16 = .ok (.bipush (-11), 2) := dk_16 245 (dk_at dksX4_refusal_0 16 rfl rfl)
theorem dX4_refusal_18 : decode cX4_refusal 18 = .ok (.goto 18, 3) := dk_167 0 18 (dk_at dksX4_refusal_0 18 rfl rfl)
theorem dX4_refusal_21 : decode cX4_refusal 21 = .ok (.aload_n 0, 1) := dk_42 (dk_at dksX4_refusal_0 21 rfl rfl)
theorem dX4_refusal_22 : decode cX4_refusal 22 = .ok (.iload_n 1, 1) := dk_27 (dk_at dksX4_refusal_0 22 rfl rfl)
theorem dX4_refusal_23 : decode cX4_refusal 23 = .ok (.iload_n 2, 1) := dk_28 (dk_at dksX4_refusal_0 23 rfl rfl)
theorem dX4_refusal_24 : decode cX4_refusal 24 = .ok (.invokevirtual 91, 3) := dk_182 0 91 (dk_at dksX4_refusal_1 0 rfl rfl)
theorem dX4_refusal_27 : decode cX4_refusal 27 = .ok (.ifCond .eq 7, 3) := dk_153 0 7 (dk_at dksX4_refusal_1 3 rfl rfl)
theorem dX4_refusal_30 : decode cX4_refusal 30 = .ok (.iconst 0, 1) := dk_3 (dk_at dksX4_refusal_1 6 rfl rfl)
theorem dX4_refusal_31 : decode cX4_refusal 31 = .ok (.goto 5, 3) := dk_167 0 5 (dk_at dksX4_refusal_1 7 rfl rfl)
theorem dX4_refusal_34 : decode cX4_refusal 34 = .ok (.bipush (-12), 2) := dk_16 244 (dk_at dksX4_refusal_1 10 rfl rfl)
theorem dX4_refusal_36 : decode cX4_refusal 36 = .ok (.ireturn, 1) := dk_172 (dk_at dksX4_refusal_1 12 rfl rfl)
abbrev cX4_areLike : ByteArray := prog_9_method_5_code
def yX4_areLike : MethodName := ⟨RX4, "areLike", "(II)Z"⟩
def dkwX4_areLike_2 : List UInt8 := [167, 0, 4, 3, 172]
abbrev dktX4_areLike_2 : List UInt8 := dkwX4_areLike_2 ++ []
def dkwX4_areLike_1 : List UInt8 := [180, 0, 13, 28, 46, 160, 0, 22, 42, 180, 0, 16, 27, 46, 42, 180, 0, 16, 28, 46, 160, 0, 7, 4]
abbrev dktX4_areLike_1 : List UInt8 := dkwX4_areLike_1 ++ dktX4_areLike_2
def dkwX4_areLike_0 : List UInt8 := [42, 180, 0, 7, 27, 46, 42, 180, 0, 7, 28, 46, 160, 0, 37, 42, 180, 0, 13, 27, 46, 42]
abbrev dktX4_areLike_0 : List UInt8 := dkwX4_areLike_0 ++ dktX4_areLike_1
theorem dksX4_areLike_0 : cX4_areLike.data.toList.drop 0 = dktX4_areLike_0 := by decide +kernel
theorem dksX4_areLike_1 : cX4_areLike.data.toList.drop 22 = dktX4_areLike_1 := dk_seg dksX4_areLike_0 22 rfl rfl
theorem dksX4_areLike_2 : cX4_areLike.data.toList.drop 46 = dktX4_areLike_2 := dk_seg dksX4_areLike_1 24 rfl rfl
theorem dX4_areLike_0 : decode cX4_areLike 0 = .ok (.aload_n 0, 1) := dk_42 (dk_at dksX4_areLike_0 0 rfl rfl)
theorem dX4_areLike_1 : decode cX4_areLike 1 = .ok (.getfield 7, 3) := dk_180 0 7 (dk_at dksX4_areLike_0 1 rfl rfl)
theorem dX4_areLike_4 : decode cX4_areLike 4 = .ok (.iload_n 1, 1) := dk_27 (dk_at dksX4_areLike_0 4 rfl rfl)
theorem dX4_areLike_5 : decode cX4_areLike 5 = .ok (.iaload, 1) := dk_46 (dk_at dksX4_areLike_0 5 rfl rfl)
theorem dX4_areLike_6 : decode cX4_areLike 6 = .ok (.aload_n 0, 1) := dk_42 (dk_at dksX4_areLike_0 6 rfl rfl)
theorem dX4_areLike_7 : decode cX4_areLike 7 = .ok (.getfield 7, 3) := dk_180 0 7 (dk_at dksX4_areLike_0 7 rfl rfl)
theorem dX4_areLike_10 : decode cX4_areLike 10 = .ok (.iload_n 2, 1) := dk_28 (dk_at dksX4_areLike_0 10 rfl rfl)
theorem dX4_areLike_11 : decode cX4_areLike 11 = .ok (.iaload, 1) := dk_46 (dk_at dksX4_areLike_0 11 rfl rfl)
theorem dX4_areLike_12 : decode cX4_areLike 12 = .ok (.if_icmp .ne 37, 3) := dk_160 0 37 (dk_at dksX4_areLike_0 12 rfl rfl)
theorem dX4_areLike_15 : decode cX4_areLike 15 = .ok (.aload_n 0, 1) := dk_42 (dk_at dksX4_areLike_0 15 rfl rfl)
theorem dX4_areLike_16 : decode cX4_areLike 16 = .ok (.getfield 13, 3) := dk_180 0 13 (dk_at dksX4_areLike_0 16 rfl rfl)
theorem dX4_areLike_19 : decode cX4_areLike 19 = .ok (.iload_n 1, 1) := dk_27 (dk_at dksX4_areLike_0 19 rfl rfl)
theorem dX4_areLike_20 : decode cX4_areLike 20 = .ok (.iaload, 1) := dk_46 (dk_at dksX4_areLike_0 20 rfl rfl)
theorem dX4_areLike_21 : decode cX4_areLike 21 = .ok (.aload_n 0, 1) := dk_42 (dk_at dksX4_areLike_0 21 rfl rfl)
theorem dX4_areLike_22 : decode cX4_areLike 22 = .ok (.getfield 13, 3) := dk_180 0 13 (dk_at dksX4_areLike_1 0 rfl rfl)
theorem dX4_areLike_25 : decode cX4_areLike 25 = .ok (.iload_n 2, 1) := dk_28 (dk_at dksX4_areLike_1 3 rfl rfl)
theorem dX4_areLike_26 : decode cX4_areLike 26 = .ok (.iaload, 1) := dk_46 (dk_at dksX4_areLike_1 4 rfl rfl)
theorem dX4_areLike_27 : decode cX4_areLike 27 = .ok (.if_icmp .ne 22, 3) := dk_160 0 22 (dk_at dksX4_areLike_1 5 rfl rfl)
theorem dX4_areLike_30 : decode cX4_areLike 30 = .ok (.aload_n 0, 1) := dk_42 (dk_at dksX4_areLike_1 8 rfl rfl)
theorem dX4_areLike_31 : decode cX4_areLike 31 = .ok (.getfield 16, 3) := dk_180 0 16 (dk_at dksX4_areLike_1 9 rfl rfl)
theorem dX4_areLike_34 : decode cX4_areLike 34 = .ok (.iload_n 1, 1) := dk_27 (dk_at dksX4_areLike_1 12 rfl rfl)
theorem dX4_areLike_35 : decode cX4_areLike 35 = .ok (.iaload, 1) := dk_46 (dk_at dksX4_areLike_1 13 rfl rfl)
theorem dX4_areLike_36 : decode cX4_areLike 36 = .ok (.aload_n 0, 1) := dk_42 (dk_at dksX4_areLike_1 14 rfl rfl)
theorem dX4_areLike_37 : decode cX4_areLike 37 = .ok (.getfield 16, 3) := dk_180 0 16 (dk_at dksX4_areLike_1 15 rfl rfl)
theorem dX4_areLike_40 : decode cX4_areLike 40 = .ok (.iload_n 2, 1) := dk_28 (dk_at dksX4_areLike_1 18 rfl rfl)
theorem dX4_areLike_41 : decode cX4_areLike 41 = .ok (.iaload, 1) := dk_46 (dk_at dksX4_areLike_1 19 rfl rfl)
theorem dX4_areLike_42 : decode cX4_areLike 42 = .ok (.if_icmp .ne 7, 3) := dk_160 0 7 (dk_at dksX4_areLike_1 20 rfl rfl)
theorem dX4_areLike_45 : decode cX4_areLike 45 = .ok (.iconst 1, 1) := dk_4 (dk_at dksX4_areLike_1 23 rfl rfl)
theorem dX4_areLike_46 : decode cX4_areLike 46 = .ok (.goto 4, 3) := dk_167 0 4 (dk_at dksX4_areLike_2 0 rfl rfl)
theorem dX4_areLike_49 : decode cX4_areLike 49 = .ok (.iconst 0, 1) := dk_3 (dk_at dksX4_areLike_2 3 rfl rfl)
theorem dX4_areLike_50 : decode cX4_areLike 50 = .ok (.ireturn, 1) := dk_172 (dk_at dksX4_areLike_2 4 rfl rfl)
abbrev cX4_compare : ByteArray := prog_9_method_19_code
def yX4_compare : MethodName := ⟨RX4, "compare", "([JI[JII)I"⟩
def dkwX4_compare_2 : List UInt8 := [4, 172, 132, 6, 1, 167, 255, 206, 3, 172]
abbrev dktX4_compare_2 : List UInt8 := dkwX4_compare_2 ++ []
def dkwX4_compare_1 : List UInt8 := [153, 0, 26, 43, 28, 21, 6, 96, 47, 45, 21, 4, 21, 6, 96, 47, 148, 156, 0, 7, 2, 167, 0, 4]
abbrev dktX4_compare_1 : List UInt8 := dkwX4_compare_1 ++ dktX4_compare_2
def dkwX4_compare_0 : List UInt8 := [3, 54, 6, 21, 6, 21, 5, 162, 0, 49, 43, 28, 21, 6, 96, 47, 45, 21, 4, 21, 6, 96, 47, 148]
abbrev dktX4_compare_0 : List UInt8 := dkwX4_compare_0 ++ dktX4_compare_1
theorem dksX4_compare_0 : cX4_compare.data.toList.drop 0 = dktX4_compare_0 := by decide +kernel
theorem dksX4_compare_1 : cX4_compare.data.toList.drop 24 = dktX4_compare_1 := dk_seg dksX4_compare_0 24 rfl rfl
theorem dksX4_compare_2 : cX4_compare.data.toList.drop 48 = dktX4_compare_2 := dk_seg dksX4_compare_1 24 rfl rfl
theorem dX4_compare_0 : decode cX4_compare 0 = .ok (.iconst 0, 1) := dk_3 (dk_at dksX4_compare_0 0 rfl rfl)
theorem dX4_compare_1 : decode cX4_compare 1 = .ok (.istore 6, 2) := dk_54 6 (dk_at dksX4_compare_0 1 rfl rfl)
theorem dX4_compare_3 : decode cX4_compare 3 = .ok (.iload 6, 2) := dk_21 6 (dk_at dksX4_compare_0 3 rfl rfl)
theorem dX4_compare_5 : decode cX4_compare 5 = .ok (.iload 5, 2) := dk_21 5 (dk_at dksX4_compare_0 5 rfl rfl)
theorem dX4_compare_7 : decode cX4_compare 7 = .ok (.if_icmp .ge 49, 3) := dk_162 0 49 (dk_at dksX4_compare_0 7 rfl rfl)
theorem dX4_compare_10 : decode cX4_compare 10 = .ok (.aload_n 1, 1) := dk_43 (dk_at dksX4_compare_0 10 rfl rfl)
theorem dX4_compare_11 : decode cX4_compare 11 = .ok (.iload_n 2, 1) := dk_28 (dk_at dksX4_compare_0 11 rfl rfl)
theorem dX4_compare_12 : decode cX4_compare 12 = .ok (.iload 6, 2) := dk_21 6 (dk_at dksX4_compare_0 12 rfl rfl)
theorem dX4_compare_14 : decode cX4_compare 14 = .ok (.iadd, 1) := dk_96 (dk_at dksX4_compare_0 14 rfl rfl)
theorem dX4_compare_15 : decode cX4_compare 15 = .ok (.laload, 1) := dk_47 (dk_at dksX4_compare_0 15 rfl rfl)
theorem dX4_compare_16 : decode cX4_compare 16 = .ok (.aload_n 3, 1) := dk_45 (dk_at dksX4_compare_0 16 rfl rfl)
theorem dX4_compare_17 : decode cX4_compare 17 = .ok (.iload 4, 2) := dk_21 4 (dk_at dksX4_compare_0 17 rfl rfl)
theorem dX4_compare_19 : decode cX4_compare 19 = .ok (.iload 6, 2) := dk_21 6 (dk_at dksX4_compare_0 19 rfl rfl)
theorem dX4_compare_21 : decode cX4_compare 21 = .ok (.iadd, 1) := dk_96 (dk_at dksX4_compare_0 21 rfl rfl)
theorem dX4_compare_22 : decode cX4_compare 22 = .ok (.laload, 1) := dk_47 (dk_at dksX4_compare_0 22 rfl rfl)
theorem dX4_compare_23 : decode cX4_compare 23 = .ok (.lcmp, 1) := dk_148 (dk_at dksX4_compare_0 23 rfl rfl)
theorem dX4_compare_24 : decode cX4_compare 24 = .ok (.ifCond .eq 26, 3) := dk_153 0 26 (dk_at dksX4_compare_1 0 rfl rfl)
theorem dX4_compare_27 : decode cX4_compare 27 = .ok (.aload_n 1, 1) := dk_43 (dk_at dksX4_compare_1 3 rfl rfl)
theorem dX4_compare_28 : decode cX4_compare 28 = .ok (.iload_n 2, 1) := dk_28 (dk_at dksX4_compare_1 4 rfl rfl)
theorem dX4_compare_29 : decode cX4_compare 29 = .ok (.iload 6, 2) := dk_21 6 (dk_at dksX4_compare_1 5 rfl rfl)
theorem dX4_compare_31 : decode cX4_compare 31 = .ok (.iadd, 1) := dk_96 (dk_at dksX4_compare_1 7 rfl rfl)
theorem dX4_compare_32 : decode cX4_compare 32 = .ok (.laload, 1) := dk_47 (dk_at dksX4_compare_1 8 rfl rfl)
theorem dX4_compare_33 : decode cX4_compare 33 = .ok (.aload_n 3, 1) := dk_45 (dk_at dksX4_compare_1 9 rfl rfl)
theorem dX4_compare_34 : decode cX4_compare 34 = .ok (.iload 4, 2) := dk_21 4 (dk_at dksX4_compare_1 10 rfl rfl)
theorem dX4_compare_36 : decode cX4_compare 36 = .ok (.iload 6, 2) := dk_21 6 (dk_at dksX4_compare_1 12 rfl rfl)
theorem dX4_compare_38 : decode cX4_compare 38 = .ok (.iadd, 1) := dk_96 (dk_at dksX4_compare_1 14 rfl rfl)
theorem dX4_compare_39 : decode cX4_compare 39 = .ok (.laload, 1) := dk_47 (dk_at dksX4_compare_1 15 rfl rfl)
theorem dX4_compare_40 : decode cX4_compare 40 = .ok (.lcmp, 1) := dk_148 (dk_at dksX4_compare_1 16 rfl rfl)
theorem dX4_compare_41 : decode cX4_compare 41 = .ok (.ifCond .ge 7, 3) := dk_156 0 7 (dk_at dksX4_compare_1 17 rfl rfl)
theorem dX4_compare_44 : decode cX4_compare 44 = .ok (.iconst (-1), 1) := dk_2 (dk_at dksX4_compare_1 20 rfl rfl)
theorem dX4_compare_45 : decode cX4_compare 45 = .ok (.goto 4, 3) := dk_167 0 4 (dk_at dksX4_compare_1 21 rfl rfl)
theorem dX4_compare_48 : decode cX4_compare 48 = .ok (.iconst 1, 1) := dk_4 (dk_at dksX4_compare_2 0 rfl rfl)
theorem dX4_compare_49 : decode cX4_compare 49 = .ok (.ireturn, 1) := dk_172 (dk_at dksX4_compare_2 1 rfl rfl)
theorem dX4_compare_50 : decode cX4_compare 50 = .ok (.iinc 6 1, 3) := dk_132 6 1 (dk_at dksX4_compare_2 2 rfl rfl)
theorem dX4_compare_53 : decode cX4_compare 53 = .ok (.goto (-50), 3) := dk_167 255 206 (dk_at dksX4_compare_2 5 rfl rfl)
theorem dX4_compare_56 : decode cX4_compare 56 = .ok (.iconst 0, 1) := dk_3 (dk_at dksX4_compare_2 8 rfl rfl)
theorem dX4_compare_57 : decode cX4_compare 57 = .ok (.ireturn, 1) := dk_172 (dk_at dksX4_compare_2 9 rfl rfl)
abbrev cX4_zero : ByteArray := prog_9_method_15_code
def yX4_zero : MethodName := ⟨RX4, "zero", "()V"⟩
def dkwX4_zero_0 : List UInt8 := [42, 9, 181, 0, 78, 42, 9, 181, 0, 82, 177]
abbrev dktX4_zero_0 : List UInt8 := dkwX4_zero_0 ++ []
theorem dksX4_zero_0 : cX4_zero.data.toList.drop 0 = dktX4_zero_0 := by decide +kernel
theorem dX4_zero_0 : decode cX4_zero 0 = .ok (.aload_n 0, 1) := dk_42 (dk_at dksX4_zero_0 0 rfl rfl)
theorem dX4_zero_1 : decode cX4_zero 1 = .ok (.lconst 0, 1) := dk_9 (dk_at dksX4_zero_0 1 rfl rfl)
theorem dX4_zero_2 : decode cX4_zero 2 = .ok (.putfield 78, 3) := dk_181 0 78 (dk_at dksX4_zero_0 2 rfl rfl)
theorem dX4_zero_5 : decode cX4_zero 5 = .ok (.aload_n 0, 1) := dk_42 (dk_at dksX4_zero_0 5 rfl rfl)
theorem dX4_zero_6 : decode cX4_zero 6 = .ok (.lconst 0, 1) := dk_9 (dk_at dksX4_zero_0 6 rfl rfl)
theorem dX4_zero_7 : decode cX4_zero 7 = .ok (.putfield 82, 3) := dk_181 0 82 (dk_at dksX4_zero_0 7 rfl rfl)
theorem dX4_zero_10 : decode cX4_zero 10 = .ok (.return_, 1) := dk_177 (dk_at dksX4_zero_0 10 rfl rfl)
abbrev cX4_add : ByteArray := prog_9_method_16_code
def yX4_add : MethodName := ⟨RX4, "add", "(JJ)V"⟩
def dkwX4_add_2 : List UInt8 := [42, 180, 0, 82, 20, 0, 85, 127, 181, 0, 82, 177]
abbrev dktX4_add_2 : List UInt8 := dkwX4_add_2 ++ []
def dkwX4_add_1 : List UInt8 := [127, 33, 105, 97, 181, 0, 82, 42, 89, 180, 0, 78, 42, 180, 0, 82, 16, 32, 123, 97, 181, 0, 78, 42]
abbrev dktX4_add_1 : List UInt8 := dkwX4_add_1 ++ dktX4_add_2
def dkwX4_add_0 : List UInt8 := [42, 89, 180, 0, 78, 31, 16, 32, 123, 33, 105, 97, 181, 0, 78, 42, 89, 180, 0, 82, 31, 20, 0, 85]
abbrev dktX4_add_0 : List UInt8 := dkwX4_add_0 ++ dktX4_add_1
theorem dksX4_add_0 : cX4_add.data.toList.drop 0 = dktX4_add_0 := by decide +kernel
theorem dksX4_add_1 : cX4_add.data.toList.drop 24 = dktX4_add_1 := dk_seg dksX4_add_0 24 rfl rfl
theorem dksX4_add_2 : cX4_add.data.toList.drop 48 = dktX4_add_2 := dk_seg dksX4_add_1 24 rfl rfl
theorem dX4_add_0 : decode cX4_add 0 = .ok (.aload_n 0, 1) := dk_42 (dk_at dksX4_add_0 0 rfl rfl)
theorem dX4_add_1 : decode cX4_add 1 = .ok (.dup, 1) := dk_89 (dk_at dksX4_add_0 1 rfl rfl)
theorem dX4_add_2 : decode cX4_add 2 = .ok (.getfield 78, 3) := dk_180 0 78 (dk_at dksX4_add_0 2 rfl rfl)
theorem dX4_add_5 : decode cX4_add 5 = .ok (.lload_n 1, 1) := dk_31 (dk_at dksX4_add_0 5 rfl rfl)
theorem dX4_add_6 : decode cX4_add 6 = .ok (.bipush 32, 2) := dk_16 32 (dk_at dksX4_add_0 6 rfl rfl)
theorem dX4_add_8 : decode cX4_add 8 = .ok (.lshr, 1) := dk_123 (dk_at dksX4_add_0 8 rfl rfl)
theorem dX4_add_9 : decode cX4_add 9 = .ok (.lload_n 3, 1) := dk_33 (dk_at dksX4_add_0 9 rfl rfl)
theorem dX4_add_10 : decode cX4_add 10 = .ok (.lmul, 1) := dk_105 (dk_at dksX4_add_0 10 rfl rfl)
theorem dX4_add_11 : decode cX4_add 11 = .ok (.ladd, 1) := dk_97 (dk_at dksX4_add_0 11 rfl rfl)
theorem dX4_add_12 : decode cX4_add 12 = .ok (.putfield 78, 3) := dk_181 0 78 (dk_at dksX4_add_0 12 rfl rfl)
theorem dX4_add_15 : decode cX4_add 15 = .ok (.aload_n 0, 1) := dk_42 (dk_at dksX4_add_0 15 rfl rfl)
theorem dX4_add_16 : decode cX4_add 16 = .ok (.dup, 1) := dk_89 (dk_at dksX4_add_0 16 rfl rfl)
theorem dX4_add_17 : decode cX4_add 17 = .ok (.getfield 82, 3) := dk_180 0 82 (dk_at dksX4_add_0 17 rfl rfl)
theorem dX4_add_20 : decode cX4_add 20 = .ok (.lload_n 1, 1) := dk_31 (dk_at dksX4_add_0 20 rfl rfl)
theorem dX4_add_21 : decode cX4_add 21 = .ok (.ldc2_w 85, 3) := dk_20 0 85 (dk_at dksX4_add_0 21 rfl rfl)
theorem dX4_add_24 : decode cX4_add 24 = .ok (.land, 1) := dk_127 (dk_at dksX4_add_1 0 rfl rfl)
theorem dX4_add_25 : decode cX4_add 25 = .ok (.lload_n 3, 1) := dk_33 (dk_at dksX4_add_1 1 rfl rfl)
theorem dX4_add_26 : decode cX4_add 26 = .ok (.lmul, 1) := dk_105 (dk_at dksX4_add_1 2 rfl rfl)
theorem dX4_add_27 : decode cX4_add 27 = .ok (.ladd, 1) := dk_97 (dk_at dksX4_add_1 3 rfl rfl)
theorem dX4_add_28 : decode cX4_add 28 = .ok (.putfield 82, 3) := dk_181 0 82 (dk_at dksX4_add_1 4 rfl rfl)
theorem dX4_add_31 : decode cX4_add 31 = .ok (.aload_n 0, 1) := dk_42 (dk_at dksX4_add_1 7 rfl rfl)
theorem dX4_add_32 : decode cX4_add 32 = .ok (.dup, 1) := dk_89 (dk_at dksX4_add_1 8 rfl rfl)
theorem dX4_add_33 : decode cX4_add 33 = .ok (.getfield 78, 3) := dk_180 0 78 (dk_at dksX4_add_1 9 rfl rfl)
theorem dX4_add_36 : decode cX4_add 36 = .ok (.aload_n 0, 1) := dk_42 (dk_at dksX4_add_1 12 rfl rfl)
theorem dX4_add_37 : decode cX4_add 37 = .ok (.getfield 82, 3) := dk_180 0 82 (dk_at dksX4_add_1 13 rfl rfl)
theorem dX4_add_40 : decode cX4_add 40 = .ok (.bipush 32, 2) := dk_16 32 (dk_at dksX4_add_1 16 rfl rfl)
theorem dX4_add_42 : decode cX4_add 42 = .ok (.lshr, 1) := dk_123 (dk_at dksX4_add_1 18 rfl rfl)
theorem dX4_add_43 : decode cX4_add 43 = .ok (.ladd, 1) := dk_97 (dk_at dksX4_add_1 19 rfl rfl)
theorem dX4_add_44 : decode cX4_add 44 = .ok (.putfield 78, 3) := dk_181 0 78 (dk_at dksX4_add_1 20 rfl rfl)
theorem dX4_add_47 : decode cX4_add 47 = .ok (.aload_n 0, 1) := dk_42 (dk_at dksX4_add_1 23 rfl rfl)
theorem dX4_add_48 : decode cX4_add 48 = .ok (.aload_n 0, 1) := dk_42 (dk_at dksX4_add_2 0 rfl rfl)
theorem dX4_add_49 : decode cX4_add 49 = .ok (.getfield 82, 3) := dk_180 0 82 (dk_at dksX4_add_2 1 rfl rfl)
theorem dX4_add_52 : decode cX4_add 52 = .ok (.ldc2_w 85, 3) := dk_20 0 85 (dk_at dksX4_add_2 4 rfl rfl)
theorem dX4_add_55 : decode cX4_add 55 = .ok (.land, 1) := dk_127 (dk_at dksX4_add_2 7 rfl rfl)
theorem dX4_add_56 : decode cX4_add 56 = .ok (.putfield 82, 3) := dk_181 0 82 (dk_at dksX4_add_2 8 rfl rfl)
theorem dX4_add_59 : decode cX4_add 59 = .ok (.return_, 1) := dk_177 (dk_at dksX4_add_2 11 rfl rfl)
abbrev cX4_fits : ByteArray := prog_9_method_17_code
def yX4_fits : MethodName := ⟨RX4, "fits", "()Z"⟩
def dkwX4_fits_0 : List UInt8 := [42, 180, 0, 78, 20, 0, 87, 20, 0, 89, 184, 0, 48, 172]
abbrev dktX4_fits_0 : List UInt8 := dkwX4_fits_0 ++ []
theorem dksX4_fits_0 : cX4_fits.data.toList.drop 0 = dktX4_fits_0 := by decide +kernel
theorem dX4_fits_0 : decode cX4_fits 0 = .ok (.aload_n 0, 1) := dk_42 (dk_at dksX4_fits_0 0 rfl rfl)
theorem dX4_fits_1 : decode cX4_fits 1 = .ok (.getfield 78, 3) := dk_180 0 78 (dk_at dksX4_fits_0 1 rfl rfl)
theorem dX4_fits_4 : decode cX4_fits 4 = .ok (.ldc2_w 87, 3) := dk_20 0 87 (dk_at dksX4_fits_0 4 rfl rfl)
theorem dX4_fits_7 : decode cX4_fits 7 = .ok (.ldc2_w 89, 3) := dk_20 0 89 (dk_at dksX4_fits_0 7 rfl rfl)
theorem dX4_fits_10 : decode cX4_fits 10 = .ok (.invokestatic 48, 3) := dk_184 0 48 (dk_at dksX4_fits_0 10 rfl rfl)
theorem dX4_fits_13 : decode cX4_fits 13 = .ok (.ireturn, 1) := dk_172 (dk_at dksX4_fits_0 13 rfl rfl)
abbrev cX4_number : ByteArray := prog_9_method_18_code
def yX4_number : MethodName := ⟨RX4, "number", "()J"⟩
def dkwX4_number_0 : List UInt8 := [42, 180, 0, 78, 16, 32, 121, 42, 180, 0, 82, 97, 173]
abbrev dktX4_number_0 : List UInt8 := dkwX4_number_0 ++ []
theorem dksX4_number_0 : cX4_number.data.toList.drop 0 = dktX4_number_0 := by decide +kernel
theorem dX4_number_0 : decode cX4_number 0 = .ok (.aload_n 0, 1) := dk_42 (dk_at dksX4_number_0 0 rfl rfl)
theorem dX4_number_1 : decode cX4_number 1 = .ok (.getfield 78, 3) := dk_180 0 78 (dk_at dksX4_number_0 1 rfl rfl)
theorem dX4_number_4 : decode cX4_number 4 = .ok (.bipush 32, 2) := dk_16 32 (dk_at dksX4_number_0 4 rfl rfl)
theorem dX4_number_6 : decode cX4_number 6 = .ok (.lshl, 1) := dk_121 (dk_at dksX4_number_0 6 rfl rfl)
theorem dX4_number_7 : decode cX4_number 7 = .ok (.aload_n 0, 1) := dk_42 (dk_at dksX4_number_0 7 rfl rfl)
theorem dX4_number_8 : decode cX4_number 8 = .ok (.getfield 82, 3) := dk_180 0 82 (dk_at dksX4_number_0 8 rfl rfl)
theorem dX4_number_11 : decode cX4_number 11 = .ok (.ladd, 1) := dk_97 (dk_at dksX4_number_0 11 rfl rfl)
theorem dX4_number_12 : decode cX4_number 12 = .ok (.lreturn, 1) := dk_173 (dk_at dksX4_number_0 12 rfl rfl)
abbrev cX4_times : ByteArray := prog_9_method_22_code
def yX4_times : MethodName := ⟨RX4, "times", "(III)I"⟩
def dkwX4_times_10 : List UInt8 := [167, 255, 116, 42, 182, 0, 64, 172]
abbrev dktX4_times_10 : List UInt8 := dkwX4_times_10 ++ []
def dkwX4_times_9 : List UInt8 := [42, 180, 0, 19, 16, 12, 42, 180, 0, 45, 104, 21, 8, 96, 42, 182, 0, 118, 80, 132, 8, 1]
abbrev dktX4_times_9 : List UInt8 := dkwX4_times_9 ++ dktX4_times_10
def dkwX4_times_8 : List UInt8 := [22, 13, 22, 4, 182, 0, 108, 42, 22, 17, 10, 182, 0, 108, 42, 182, 0, 114, 154, 0, 6, 16, 240, 172]
abbrev dktX4_times_8 : List UInt8 := dkwX4_times_8 ++ dktX4_times_9
def dkwX4_times_7 : List UInt8 := [109, 55, 17, 22, 15, 22, 6, 113, 9, 148, 156, 0, 9, 22, 17, 10, 101, 55, 17, 42, 182, 0, 105, 42]
abbrev dktX4_times_7 : List UInt8 := dkwX4_times_7 ++ dktX4_times_8
def dkwX4_times_6 : List UInt8 := [22, 11, 22, 6, 97, 55, 11, 22, 13, 10, 101, 55, 13, 22, 11, 22, 4, 105, 55, 15, 22, 15, 22, 6]
abbrev dktX4_times_6 : List UInt8 := dkwX4_times_6 ++ dktX4_times_7
def dkwX4_times_5 : List UInt8 := [55, 9, 22, 9, 22, 6, 113, 55, 11, 22, 9, 22, 6, 109, 55, 13, 22, 11, 9, 148, 156, 0, 16]
abbrev dktX4_times_5 : List UInt8 := dkwX4_times_5 ++ dktX4_times_6
def dkwX4_times_4 : List UInt8 := [21, 8, 42, 180, 0, 16, 27, 46, 162, 0, 135, 42, 180, 0, 19, 16, 12, 27, 104, 21, 8, 96, 47]
abbrev dktX4_times_4 : List UInt8 := dkwX4_times_4 ++ dktX4_times_5
def dkwX4_times_3 : List UInt8 := [180, 0, 7, 27, 46, 42, 180, 0, 13, 27, 46, 42, 180, 0, 16, 27, 46, 182, 0, 60, 3, 54, 8]
abbrev dktX4_times_3 : List UInt8 := dkwX4_times_3 ++ dktX4_times_4
def dkwX4_times_2 : List UInt8 := [167, 0, 5, 28, 133, 55, 4, 29, 156, 0, 9, 29, 133, 117, 167, 0, 5, 29, 133, 55, 6, 42, 42]
abbrev dktX4_times_2 : List UInt8 := dkwX4_times_2 ++ dktX4_times_3
def dkwX4_times_1 : List UInt8 := [27, 182, 0, 72, 153, 0, 6, 16, 245, 172, 29, 154, 0, 6, 16, 241, 172, 29, 156, 0, 9, 28, 133, 117]
abbrev dktX4_times_1 : List UInt8 := dkwX4_times_1 ++ dktX4_times_2
def dkwX4_times_0 : List UInt8 := [42, 27, 182, 0, 68, 154, 0, 6, 16, 254, 172, 42, 180, 0, 45, 16, 60, 160, 0, 6, 16, 252, 172, 42]
abbrev dktX4_times_0 : List UInt8 := dkwX4_times_0 ++ dktX4_times_1
theorem dksX4_times_0 : cX4_times.data.toList.drop 0 = dktX4_times_0 := by decide +kernel
theorem dksX4_times_1 : cX4_times.data.toList.drop 24 = dktX4_times_1 := dk_seg dksX4_times_0 24 rfl rfl
theorem dksX4_times_2 : cX4_times.data.toList.drop 48 = dktX4_times_2 := dk_seg dksX4_times_1 24 rfl rfl
theorem dksX4_times_3 : cX4_times.data.toList.drop 71 = dktX4_times_3 := dk_seg dksX4_times_2 23 rfl rfl
theorem dksX4_times_4 : cX4_times.data.toList.drop 94 = dktX4_times_4 := dk_seg dksX4_times_3 23 rfl rfl
theorem dksX4_times_5 : cX4_times.data.toList.drop 117 = dktX4_times_5 := dk_seg dksX4_times_4 23 rfl rfl
theorem dksX4_times_6 : cX4_times.data.toList.drop 140 = dktX4_times_6 := dk_seg dksX4_times_5 23 rfl rfl
theorem dksX4_times_7 : cX4_times.data.toList.drop 164 = dktX4_times_7 := dk_seg dksX4_times_6 24 rfl rfl
theorem dksX4_times_8 : cX4_times.data.toList.drop 188 = dktX4_times_8 := dk_seg dksX4_times_7 24 rfl rfl
theorem dksX4_times_9 : cX4_times.data.toList.drop 212 = dktX4_times_9 := dk_seg dksX4_times_8 24 rfl rfl
theorem dksX4_times_10 : cX4_times.data.toList.drop 234 = dktX4_times_10 := dk_seg dksX4_times_9 22 rfl rfl
theorem dX4_times_0 : decode cX4_times 0 = .ok (.aload_n 0, 1) := dk_42 (dk_at dksX4_times_0 0 rfl rfl)
theorem dX4_times_1 : decode cX4_times 1 = .ok (.iload_n 1, 1) := dk_27 (dk_at dksX4_times_0 1 rfl rfl)
theorem dX4_times_2 : decode cX4_times 2 = .ok (.invokevirtual 68, 3) := dk_182 0 68 (dk_at dksX4_times_0 2 rfl rfl)
theorem dX4_times_5 : decode cX4_times 5 = .ok (.ifCond .ne 6, 3) := dk_154 0 6 (dk_at dksX4_times_0 5 rfl rfl)
theorem dX4_times_8 : decode cX4_times 8 = .ok (.bipush (-2), 2) := dk_16 254 (dk_at dksX4_times_0 8 rfl rfl)
theorem dX4_times_10 : decode cX4_times 10 = .ok (.ireturn, 1) := dk_172 (dk_at dksX4_times_0 10 rfl rfl)
theorem dX4_times_11 : decode cX4_times 11 = .ok (.aload_n 0, 1) := dk_42 (dk_at dksX4_times_0 11 rfl rfl)
theorem dX4_times_12 : decode cX4_times 12 = .ok (.getfield 45, 3) := dk_180 0 45 (dk_at dksX4_times_0 12 rfl rfl)
theorem dX4_times_15 : decode cX4_times 15 = .ok (.bipush 60, 2) := dk_16 60 (dk_at dksX4_times_0 15 rfl rfl)
theorem dX4_times_17 : decode cX4_times 17 = .ok (.if_icmp .ne 6, 3) := dk_160 0 6 (dk_at dksX4_times_0 17 rfl rfl)
theorem dX4_times_20 : decode cX4_times 20 = .ok (.bipush (-4), 2) := dk_16 252 (dk_at dksX4_times_0 20 rfl rfl)
theorem dX4_times_22 : decode cX4_times 22 = .ok (.ireturn, 1) := dk_172 (dk_at dksX4_times_0 22 rfl rfl)
theorem dX4_times_23 : decode cX4_times 23 = .ok (.aload_n 0, 1) := dk_42 (dk_at dksX4_times_0 23 rfl rfl)
theorem dX4_times_24 : decode cX4_times 24 = .ok (.iload_n 1, 1) := dk_27 (dk_at dksX4_times_1 0 rfl rfl)
theorem dX4_times_25 : decode cX4_times 25 = .ok (.invokevirtual 72, 3) := dk_182 0 72 (dk_at dksX4_times_1 1 rfl rfl)
theorem dX4_times_28 : decode cX4_times 28 = .ok (.ifCond .eq 6, 3) := dk_153 0 6 (dk_at dksX4_times_1 4 rfl rfl)
theorem dX4_times_31 : decode cX4_times 31 = .ok (.bipush (-11), 2) := dk_16 245 (dk_at dksX4_times_1 7 rfl rfl)
theorem dX4_times_33 : decode cX4_times 33 = .ok (.ireturn, 1) := dk_172 (dk_at dksX4_times_1 9 rfl rfl)
theorem dX4_times_34 : decode cX4_times 34 = .ok (.iload_n 3, 1) := dk_29 (dk_at dksX4_times_1 10 rfl rfl)
theorem dX4_times_35 : decode cX4_times 35 = .ok (.ifCond .ne 6, 3) := dk_154 0 6 (dk_at dksX4_times_1 11 rfl rfl)
theorem dX4_times_38 : decode cX4_times 38 = .ok (.bipush (-15), 2) := dk_16 241 (dk_at dksX4_times_1 14 rfl rfl)
theorem dX4_times_40 : decode cX4_times 40 = .ok (.ireturn, 1) := dk_172 (dk_at dksX4_times_1 16 rfl rfl)
theorem dX4_times_41 : decode cX4_times 41 = .ok (.iload_n 3, 1) := dk_29 (dk_at dksX4_times_1 17 rfl rfl)
theorem dX4_times_42 : decode cX4_times 42 = .ok (.ifCond .ge 9, 3) := dk_156 0 9 (dk_at dksX4_times_1 18 rfl rfl)
theorem dX4_times_45 : decode cX4_times 45 = .ok (.iload_n 2, 1) := dk_28 (dk_at dksX4_times_1 21 rfl rfl)
theorem dX4_times_46 : decode cX4_times 46 = .ok (.i2l, 1) := dk_133 (dk_at dksX4_times_1 22 rfl rfl)
theorem dX4_times_47 : decode cX4_times 47 = .ok (.lneg, 1) := dk_117 (dk_at dksX4_times_1 23 rfl rfl)
theorem dX4_times_48 : decode cX4_times 48 = .ok (.goto 5, 3) := dk_167 0 5 (dk_at dksX4_times_2 0 rfl rfl)
theorem dX4_times_51 : decode cX4_times 51 = .ok (.iload_n 2, 1) := dk_28 (dk_at dksX4_times_2 3 rfl rfl)
theorem dX4_times_52 : decode cX4_times 52 = .ok (.i2l, 1) := dk_133 (dk_at dksX4_times_2 4 rfl rfl)
theorem dX4_times_53 : decode cX4_times 53 = .ok (.lstore 4, 2) := dk_55 4 (dk_at dksX4_times_2 5 rfl rfl)
theorem dX4_times_55 : decode cX4_times 55 = .ok (.iload_n 3, 1) := dk_29 (dk_at dksX4_times_2 7 rfl rfl)
theorem dX4_times_56 : decode cX4_times 56 = .ok (.ifCond .ge 9, 3) := dk_156 0 9 (dk_at dksX4_times_2 8 rfl rfl)
theorem dX4_times_59 : decode cX4_times 59 = .ok (.iload_n 3, 1) := dk_29 (dk_at dksX4_times_2 11 rfl rfl)
theorem dX4_times_60 : decode cX4_times 60 = .ok (.i2l, 1) := dk_133 (dk_at dksX4_times_2 12 rfl rfl)
theorem dX4_times_61 : decode cX4_times 61 = .ok (.lneg, 1) := dk_117 (dk_at dksX4_times_2 13 rfl rfl)
theorem dX4_times_62 : decode cX4_times 62 = .ok (.goto 5, 3) := dk_167 0 5 (dk_at dksX4_times_2 14 rfl rfl)
theorem dX4_times_65 : decode cX4_times 65 = .ok (.iload_n 3, 1) := dk_29 (dk_at dksX4_times_2 17 rfl rfl)
theorem dX4_times_66 : decode cX4_times 66 = .ok (.i2l, 1) := dk_133 (dk_at dksX4_times_2 18 rfl rfl)
theorem dX4_times_67 : decode cX4_times 67 = .ok (.lstore 6, 2) := dk_55 6 (dk_at dksX4_times_2 19 rfl rfl)
theorem dX4_times_69 : decode cX4_times 69 = .ok (.aload_n 0, 1) := dk_42 (dk_at dksX4_times_2 21 rfl rfl)
theorem dX4_times_70 : decode cX4_times 70 = .ok (.aload_n 0, 1) := dk_42 (dk_at dksX4_times_2 22 rfl rfl)
theorem dX4_times_71 : decode cX4_times 71 = .ok (.getfield 7, 3) := dk_180 0 7 (dk_at dksX4_times_3 0 rfl rfl)
theorem dX4_times_74 : decode cX4_times 74 = .ok (.iload_n 1, 1) := dk_27 (dk_at dksX4_times_3 3 rfl rfl)
theorem dX4_times_75 : decode cX4_times 75 = .ok (.iaload, 1) := dk_46 (dk_at dksX4_times_3 4 rfl rfl)
theorem dX4_times_76 : decode cX4_times 76 = .ok (.aload_n 0, 1) := dk_42 (dk_at dksX4_times_3 5 rfl rfl)
theorem dX4_times_77 : decode cX4_times 77 = .ok (.getfield 13, 3) := dk_180 0 13 (dk_at dksX4_times_3 6 rfl rfl)
theorem dX4_times_80 : decode cX4_times 80 = .ok (.iload_n 1, 1) := dk_27 (dk_at dksX4_times_3 9 rfl rfl)
theorem dX4_times_81 : decode cX4_times 81 = .ok (.iaload, 1) := dk_46 (dk_at dksX4_times_3 10 rfl rfl)
theorem dX4_times_82 : decode cX4_times 82 = .ok (.aload_n 0, 1) := dk_42 (dk_at dksX4_times_3 11 rfl rfl)
theorem dX4_times_83 : decode cX4_times 83 = .ok (.getfield 16, 3) := dk_180 0 16 (dk_at dksX4_times_3 12 rfl rfl)
theorem dX4_times_86 : decode cX4_times 86 = .ok (.iload_n 1, 1) := dk_27 (dk_at dksX4_times_3 15 rfl rfl)
theorem dX4_times_87 : decode cX4_times 87 = .ok (.iaload, 1) := dk_46 (dk_at dksX4_times_3 16 rfl rfl)
theorem dX4_times_88 : decode cX4_times 88 = .ok (.invokevirtual 60, 3) := dk_182 0 60 (dk_at dksX4_times_3 17 rfl rfl)
theorem dX4_times_91 : decode cX4_times 91 = .ok (.iconst 0, 1) := dk_3 (dk_at dksX4_times_3 20 rfl rfl)
theorem dX4_times_92 : decode cX4_times 92 = .ok (.istore 8, 2) := dk_54 8 (dk_at dksX4_times_3 21 rfl rfl)
theorem dX4_times_94 : decode cX4_times 94 = .ok (.iload 8, 2) := dk_21 8 (dk_at dksX4_times_4 0 rfl rfl)
theorem dX4_times_96 : decode cX4_times 96 = .ok (.aload_n 0, 1) := dk_42 (dk_at dksX4_times_4 2 rfl rfl)
theorem dX4_times_97 : decode cX4_times 97 = .ok (.getfield 16, 3) := dk_180 0 16 (dk_at dksX4_times_4 3 rfl rfl)
theorem dX4_times_100 : decode cX4_times 100 = .ok (.iload_n 1, 1) := dk_27 (dk_at dksX4_times_4 6 rfl rfl)
theorem dX4_times_101 : decode cX4_times 101 = .ok (.iaload, 1) := dk_46 (dk_at dksX4_times_4 7 rfl rfl)
theorem dX4_times_102 : decode cX4_times 102 = .ok (.if_icmp .ge 135, 3) := dk_162 0 135 (dk_at dksX4_times_4 8 rfl rfl)
theorem dX4_times_105 : decode cX4_times 105 = .ok (.aload_n 0, 1) := dk_42 (dk_at dksX4_times_4 11 rfl rfl)
theorem dX4_times_106 : decode cX4_times 106 = .ok (.getfield 19, 3) := dk_180 0 19 (dk_at dksX4_times_4 12 rfl rfl)
theorem dX4_times_109 : decode cX4_times 109 = .ok (.bipush 12, 2) := dk_16 12 (dk_at dksX4_times_4 15 rfl rfl)
theorem dX4_times_111 : decode cX4_times 111 = .ok (.iload_n 1, 1) := dk_27 (dk_at dksX4_times_4 17 rfl rfl)
theorem dX4_times_112 : decode cX4_times 112 = .ok (.imul, 1) := dk_104 (dk_at dksX4_times_4 18 rfl rfl)
theorem dX4_times_113 : decode cX4_times 113 = .ok (.iload 8, 2) := dk_21 8 (dk_at dksX4_times_4 19 rfl rfl)
theorem dX4_times_115 : decode cX4_times 115 = .ok (.iadd, 1) := dk_96 (dk_at dksX4_times_4 21 rfl rfl)
theorem dX4_times_116 : decode cX4_times 116 = .ok (.laload, 1) := dk_47 (dk_at dksX4_times_4 22 rfl rfl)
theorem dX4_times_117 : decode cX4_times 117 = .ok (.lstore 9, 2) := dk_55 9 (dk_at dksX4_times_5 0 rfl rfl)
theorem dX4_times_119 : decode cX4_times 119 = .ok (.lload 9, 2) := dk_22 9 (dk_at dksX4_times_5 2 rfl rfl)
theorem dX4_times_121 : decode cX4_times 121 = .ok (.lload 6, 2) := dk_22 6 (dk_at dksX4_times_5 4 rfl rfl)
theorem dX4_times_123 : decode cX4_times 123 = .ok (.lrem, 1) := dk_113 (dk_at dksX4_times_5 6 rfl rfl)
theorem dX4_times_124 : decode cX4_times 124 = .ok (.lstore 11, 2) := dk_55 11 (dk_at dksX4_times_5 7 rfl rfl)
theorem dX4_times_126 : decode cX4_times 126 = .ok (.lload 9, 2) := dk_22 9 (dk_at dksX4_times_5 9 rfl rfl)
theorem dX4_times_128 : decode cX4_times 128 = .ok (.lload 6, 2) := dk_22 6 (dk_at dksX4_times_5 11 rfl rfl)
theorem dX4_times_130 : decode cX4_times 130 = .ok (.ldiv, 1) := dk_109 (dk_at dksX4_times_5 13 rfl rfl)
theorem dX4_times_131 : decode cX4_times 131 = .ok (.lstore 13, 2) := dk_55 13 (dk_at dksX4_times_5 14 rfl rfl)
theorem dX4_times_133 : decode cX4_times 133 = .ok (.lload 11, 2) := dk_22 11 (dk_at dksX4_times_5 16 rfl rfl)
theorem dX4_times_135 : decode cX4_times 135 = .ok (.lconst 0, 1) := dk_9 (dk_at dksX4_times_5 18 rfl rfl)
theorem dX4_times_136 : decode cX4_times 136 = .ok (.lcmp, 1) := dk_148 (dk_at dksX4_times_5 19 rfl rfl)
theorem dX4_times_137 : decode cX4_times 137 = .ok (.ifCond .ge 16, 3) := dk_156 0 16 (dk_at dksX4_times_5 20 rfl rfl)
theorem dX4_times_140 : decode cX4_times 140 = .ok (.lload 11, 2) := dk_22 11 (dk_at dksX4_times_6 0 rfl rfl)
theorem dX4_times_142 : decode cX4_times 142 = .ok (.lload 6, 2) := dk_22 6 (dk_at dksX4_times_6 2 rfl rfl)
theorem dX4_times_144 : decode cX4_times 144 = .ok (.ladd, 1) := dk_97 (dk_at dksX4_times_6 4 rfl rfl)
theorem dX4_times_145 : decode cX4_times 145 = .ok (.lstore 11, 2) := dk_55 11 (dk_at dksX4_times_6 5 rfl rfl)
theorem dX4_times_147 : decode cX4_times 147 = .ok (.lload 13, 2) := dk_22 13 (dk_at dksX4_times_6 7 rfl rfl)
theorem dX4_times_149 : decode cX4_times 149 = .ok (.lconst 1, 1) := dk_10 (dk_at dksX4_times_6 9 rfl rfl)
theorem dX4_times_150 : decode cX4_times 150 = .ok (.lsub, 1) := dk_101 (dk_at dksX4_times_6 10 rfl rfl)
theorem dX4_times_151 : decode cX4_times 151 = .ok (.lstore 13, 2) := dk_55 13 (dk_at dksX4_times_6 11 rfl rfl)
theorem dX4_times_153 : decode cX4_times 153 = .ok (.lload 11, 2) := dk_22 11 (dk_at dksX4_times_6 13 rfl rfl)
theorem dX4_times_155 : decode cX4_times 155 = .ok (.lload 4, 2) := dk_22 4 (dk_at dksX4_times_6 15 rfl rfl)
theorem dX4_times_157 : decode cX4_times 157 = .ok (.lmul, 1) := dk_105 (dk_at dksX4_times_6 17 rfl rfl)
theorem dX4_times_158 : decode cX4_times 158 = .ok (.lstore 15, 2) := dk_55 15 (dk_at dksX4_times_6 18 rfl rfl)
theorem dX4_times_160 : decode cX4_times 160 = .ok (.lload 15, 2) := dk_22 15 (dk_at dksX4_times_6 20 rfl rfl)
theorem dX4_times_162 : decode cX4_times 162 = .ok (.lload 6, 2) := dk_22 6 (dk_at dksX4_times_6 22 rfl rfl)
theorem dX4_times_164 : decode cX4_times 164 = .ok (.ldiv, 1) := dk_109 (dk_at dksX4_times_7 0 rfl rfl)
theorem dX4_times_165 : decode cX4_times 165 = .ok (.lstore 17, 2) := dk_55 17 (dk_at dksX4_times_7 1 rfl rfl)
theorem dX4_times_167 : decode cX4_times 167 = .ok (.lload 15, 2) := dk_22 15 (dk_at dksX4_times_7 3 rfl rfl)
theorem dX4_times_169 : decode cX4_times 169 = .ok (.lload 6, 2) := dk_22 6 (dk_at dksX4_times_7 5 rfl rfl)
theorem dX4_times_171 : decode cX4_times 171 = .ok (.lrem, 1) := dk_113 (dk_at dksX4_times_7 7 rfl rfl)
theorem dX4_times_172 : decode cX4_times 172 = .ok (.lconst 0, 1) := dk_9 (dk_at dksX4_times_7 8 rfl rfl)
theorem dX4_times_173 : decode cX4_times 173 = .ok (.lcmp, 1) := dk_148 (dk_at dksX4_times_7 9 rfl rfl)
theorem dX4_times_174 : decode cX4_times 174 = .ok (.ifCond .ge 9, 3) := dk_156 0 9 (dk_at dksX4_times_7 10 rfl rfl)
theorem dX4_times_177 : decode cX4_times 177 = .ok (.lload 17, 2) := dk_22 17 (dk_at dksX4_times_7 13 rfl rfl)
theorem dX4_times_179 : decode cX4_times 179 = .ok (.lconst 1, 1) := dk_10 (dk_at dksX4_times_7 15 rfl rfl)
theorem dX4_times_180 : decode cX4_times 180 = .ok (.lsub, 1) := dk_101 (dk_at dksX4_times_7 16 rfl rfl)
theorem dX4_times_181 : decode cX4_times 181 = .ok (.lstore 17, 2) := dk_55 17 (dk_at dksX4_times_7 17 rfl rfl)
theorem dX4_times_183 : decode cX4_times 183 = .ok (.aload_n 0, 1) := dk_42 (dk_at dksX4_times_7 19 rfl rfl)
theorem dX4_times_184 : decode cX4_times 184 = .ok (.invokevirtual 105, 3) := dk_182 0 105 (dk_at dksX4_times_7 20 rfl rfl)
theorem dX4_times_187 : decode cX4_times 187 = .ok (.aload_n 0, 1) := dk_42 (dk_at dksX4_times_7 23 rfl rfl)
theorem dX4_times_188 : decode cX4_times 188 = .ok (.lload 13, 2) := dk_22 13 (dk_at dksX4_times_8 0 rfl rfl)
theorem dX4_times_190 : decode cX4_times 190 = .ok (.lload 4, 2) := dk_22 4 (dk_at dksX4_times_8 2 rfl rfl)
theorem dX4_times_192 : decode cX4_times 192 = .ok (.invokevirtual 108, 3) := dk_182 0 108 (dk_at dksX4_times_8 4 rfl rfl)
theorem dX4_times_195 : decode cX4_times 195 = .ok (.aload_n 0, 1) := dk_42 (dk_at dksX4_times_8 7 rfl rfl)
theorem dX4_times_196 : decode cX4_times 196 = .ok (.lload 17, 2) := dk_22 17 (dk_at dksX4_times_8 8 rfl rfl)
theorem dX4_times_198 : decode cX4_times 198 = .ok (.lconst 1, 1) := dk_10 (dk_at dksX4_times_8 10 rfl rfl)
theorem dX4_times_199 : decode cX4_times 199 = .ok (.invokevirtual 108, 3) := dk_182 0 108 (dk_at dksX4_times_8 11 rfl rfl)
theorem dX4_times_202 : decode cX4_times 202 = .ok (.aload_n 0, 1) := dk_42 (dk_at dksX4_times_8 14 rfl rfl)
theorem dX4_times_203 : decode cX4_times 203 = .ok (.invokevirtual 114, 3) := dk_182 0 114 (dk_at dksX4_times_8 15 rfl rfl)
theorem dX4_times_206 : decode cX4_times 206 = .ok (.ifCond .ne 6, 3) := dk_154 0 6 (dk_at dksX4_times_8 18 rfl rfl)
theorem dX4_times_209 : decode cX4_times 209 = .ok (.bipush (-16), 2) := dk_16 240 (dk_at dksX4_times_8 21 rfl rfl)
theorem dX4_times_211 : decode cX4_times 211 = .ok (.ireturn, 1) := dk_172 (dk_at dksX4_times_8 23 rfl rfl)
theorem dX4_times_212 : decode cX4_times 212 = .ok (.aload_n 0, 1) := dk_42 (dk_at dksX4_times_9 0 rfl rfl)
theorem dX4_times_213 : decode cX4_times 213 = .ok (.getfield 19, 3) := dk_180 0 19 (dk_at dksX4_times_9 1 rfl rfl)
theorem dX4_times_216 : decode cX4_times 216 = .ok (.bipush 12, 2) := dk_16 12 (dk_at dksX4_times_9 4 rfl rfl)
theorem dX4_times_218 : decode cX4_times 218 = .ok (.aload_n 0, 1) := dk_42 (dk_at dksX4_times_9 6 rfl rfl)
theorem dX4_times_219 : decode cX4_times 219 = .ok (.getfield 45, 3) := dk_180 0 45 (dk_at dksX4_times_9 7 rfl rfl)
theorem dX4_times_222 : decode cX4_times 222 = .ok (.imul, 1) := dk_104 (dk_at dksX4_times_9 10 rfl rfl)
theorem dX4_times_223 : decode cX4_times 223 = .ok (.iload 8, 2) := dk_21 8 (dk_at dksX4_times_9 11 rfl rfl)
theorem dX4_times_225 : decode cX4_times 225 = .ok (.iadd, 1) := dk_96 (dk_at dksX4_times_9 13 rfl rfl)
theorem dX4_times_226 : decode cX4_times 226 = .ok (.aload_n 0, 1) := dk_42 (dk_at dksX4_times_9 14 rfl rfl)
theorem dX4_times_227 : decode cX4_times 227 = .ok (.invokevirtual 118, 3) := dk_182 0 118 (dk_at dksX4_times_9 15 rfl rfl)
theorem dX4_times_230 : decode cX4_times 230 = .ok (.lastore, 1) := dk_80 (dk_at dksX4_times_9 18 rfl rfl)
theorem dX4_times_231 : decode cX4_times 231 = .ok (.iinc 8 1, 3) := dk_132 8 1 (dk_at dksX4_times_9 19 rfl rfl)
theorem dX4_times_234 : decode cX4_times 234 = .ok (.goto (-140), 3) := dk_167 255 116 (dk_at dksX4_times_10 0 rfl rfl)
theorem dX4_times_237 : decode cX4_times 237 = .ok (.aload_n 0, 1) := dk_42 (dk_at dksX4_times_10 3 rfl rfl)
theorem dX4_times_238 : decode cX4_times 238 = .ok (.invokevirtual 64, 3) := dk_182 0 64 (dk_at dksX4_times_10 4 rfl rfl)
theorem dX4_times_241 : decode cX4_times 241 = .ok (.ireturn, 1) := dk_172 (dk_at dksX4_times_10 7 rfl rfl)
abbrev cX4_order : ByteArray := prog_9_method_23_code
def yX4_order : MethodName := ⟨RX4, "order", "(II)I"⟩
def dkwX4_order_2 : List UInt8 := [180, 0, 19, 16, 12, 28, 104, 42, 180, 0, 16, 27, 46, 182, 0, 101, 96, 172]
abbrev dktX4_order_2 : List UInt8 := dkwX4_order_2 ++ []
def dkwX4_order_1 : List UInt8 := [182, 0, 97, 62, 29, 156, 0, 7, 29, 167, 0, 31, 5, 42, 42, 180, 0, 19, 16, 12, 27, 104, 42]
abbrev dktX4_order_1 : List UInt8 := dkwX4_order_1 ++ dktX4_order_2
def dkwX4_order_0 : List UInt8 := [42, 27, 182, 0, 68, 153, 0, 11, 42, 28, 182, 0, 68, 154, 0, 6, 16, 254, 172, 42, 27, 28]
abbrev dktX4_order_0 : List UInt8 := dkwX4_order_0 ++ dktX4_order_1
theorem dksX4_order_0 : cX4_order.data.toList.drop 0 = dktX4_order_0 := by decide +kernel
theorem dksX4_order_1 : cX4_order.data.toList.drop 22 = dktX4_order_1 := dk_seg dksX4_order_0 22 rfl rfl
theorem dksX4_order_2 : cX4_order.data.toList.drop 45 = dktX4_order_2 := dk_seg dksX4_order_1 23 rfl rfl
theorem dX4_order_0 : decode cX4_order 0 = .ok (.aload_n 0, 1) := dk_42 (dk_at dksX4_order_0 0 rfl rfl)
theorem dX4_order_1 : decode cX4_order 1 = .ok (.iload_n 1, 1) := dk_27 (dk_at dksX4_order_0 1 rfl rfl)
theorem dX4_order_2 : decode cX4_order 2 = .ok (.invokevirtual 68, 3) := dk_182 0 68 (dk_at dksX4_order_0 2 rfl rfl)
theorem dX4_order_5 : decode cX4_order 5 = .ok (.ifCond .eq 11, 3) := dk_153 0 11 (dk_at dksX4_order_0 5 rfl rfl)
theorem dX4_order_8 : decode cX4_order 8 = .ok (.aload_n 0, 1) := dk_42 (dk_at dksX4_order_0 8 rfl rfl)
theorem dX4_order_9 : decode cX4_order 9 = .ok (.iload_n 2, 1) := dk_28 (dk_at dksX4_order_0 9 rfl rfl)
theorem dX4_order_10 : decode cX4_order 10 = .ok (.invokevirtual 68, 3) := dk_182 0 68 (dk_at dksX4_order_0 10 rfl rfl)
theorem dX4_order_13 : decode cX4_order 13 = .ok (.ifCond .ne 6, 3) := dk_154 0 6 (dk_at dksX4_order_0 13 rfl rfl)
theorem dX4_order_16 : decode cX4_order 16 = .ok (.bipush (-2), 2) := dk_16 254 (dk_at dksX4_order_0 16 rfl rfl)
theorem dX4_order_18 : decode cX4_order 18 = .ok (.ireturn, 1) := dk_172 (dk_at dksX4_order_0 18 rfl rfl)
theorem dX4_order_19 : decode cX4_order 19 = .ok (.aload_n 0, 1) := dk_42 (dk_at dksX4_order_0 19 rfl rfl)
theorem dX4_order_20 : decode cX4_order 20 = .ok (.iload_n 1, 1) := dk_27 (dk_at dksX4_order_0 20 rfl rfl)
theorem dX4_order_21 : decode cX4_order 21 = .ok (.iload_n 2, 1) := dk_28 (dk_at dksX4_order_0 21 rfl rfl)
theorem dX4_order_22 : decode cX4_order 22 = .ok (.invokevirtual 97, 3) := dk_182 0 97 (dk_at dksX4_order_1 0 rfl rfl)
theorem dX4_order_25 : decode cX4_order 25 = .ok (.istore_n 3, 1) := dk_62 (dk_at dksX4_order_1 3 rfl rfl)
theorem dX4_order_26 : decode cX4_order 26 = .ok (.iload_n 3, 1) := dk_29 (dk_at dksX4_order_1 4 rfl rfl)
theorem dX4_order_27 : decode cX4_order 27 = .ok (.ifCond .ge 7, 3) := dk_156 0 7 (dk_at dksX4_order_1 5 rfl rfl)
theorem dX4_order_30 : decode cX4_order 30 = .ok (.iload_n 3, 1) := dk_29 (dk_at dksX4_order_1 8 rfl rfl)
theorem dX4_order_31 : decode cX4_order 31 = .ok (.goto 31, 3) := dk_167 0 31 (dk_at dksX4_order_1 9 rfl rfl)
theorem dX4_order_34 : decode cX4_order 34 = .ok (.iconst 2, 1) := dk_5 (dk_at dksX4_order_1 12 rfl rfl)
theorem dX4_order_35 : decode cX4_order 35 = .ok (.aload_n 0, 1) := dk_42 (dk_at dksX4_order_1 13 rfl rfl)
theorem dX4_order_36 : decode cX4_order 36 = .ok (.aload_n 0, 1) := dk_42 (dk_at dksX4_order_1 14 rfl rfl)
theorem dX4_order_37 : decode cX4_order 37 = .ok (.getfield 19, 3) := dk_180 0 19 (dk_at dksX4_order_1 15 rfl rfl)
theorem dX4_order_40 : decode cX4_order 40 = .ok (.bipush 12, 2) := dk_16 12 (dk_at dksX4_order_1 18 rfl rfl)
theorem dX4_order_42 : decode cX4_order 42 = .ok (.iload_n 1, 1) := dk_27 (dk_at dksX4_order_1 20 rfl rfl)
theorem dX4_order_43 : decode cX4_order 43 = .ok (.imul, 1) := dk_104 (dk_at dksX4_order_1 21 rfl rfl)
theorem dX4_order_44 : decode cX4_order 44 = .ok (.aload_n 0, 1) := dk_42 (dk_at dksX4_order_1 22 rfl rfl)
theorem dX4_order_45 : decode cX4_order 45 = .ok (.getfield 19, 3) := dk_180 0 19 (dk_at dksX4_order_2 0 rfl rfl)
theorem dX4_order_48 : decode cX4_order 48 = .ok (.bipush 12, 2) := dk_16 12 (dk_at dksX4_order_2 3 rfl rfl)
theorem dX4_order_50 : decode cX4_order 50 = .ok (.iload_n 2, 1) := dk_28 (dk_at dksX4_order_2 5 rfl rfl)
theorem dX4_order_51 : decode cX4_order 51 = .ok (.imul, 1) := dk_104 (dk_at dksX4_order_2 6 rfl rfl)
theorem dX4_order_52 : decode cX4_order 52 = .ok (.aload_n 0, 1) := dk_42 (dk_at dksX4_order_2 7 rfl rfl)
theorem dX4_order_53 : decode cX4_order 53 = .ok (.getfield 16, 3) := dk_180 0 16 (dk_at dksX4_order_2 8 rfl rfl)
theorem dX4_order_56 : decode cX4_order 56 = .ok (.iload_n 1, 1) := dk_27 (dk_at dksX4_order_2 11 rfl rfl)
theorem dX4_order_57 : decode cX4_order 57 = .ok (.iaload, 1) := dk_46 (dk_at dksX4_order_2 12 rfl rfl)
theorem dX4_order_58 : decode cX4_order 58 = .ok (.invokevirtual 101, 3) := dk_182 0 101 (dk_at dksX4_order_2 13 rfl rfl)
theorem dX4_order_61 : decode cX4_order 61 = .ok (.iadd, 1) := dk_96 (dk_at dksX4_order_2 16 rfl rfl)
theorem dX4_order_62 : decode cX4_order 62 = .ok (.ireturn, 1) := dk_172 (dk_at dksX4_order_2 17 rfl rfl)
abbrev cX4_put : ByteArray := prog_9_method_24_code
def yX4_put : MethodName := ⟨RX4, "put", "(I)I"⟩
def dkwX4_put_2 : List UInt8 := [181, 0, 124, 42, 180, 0, 124, 172]
abbrev dktX4_put_2 : List UInt8 := dkwX4_put_2 ++ []
def dkwX4_put_1 : List UInt8 := [160, 0, 6, 16, 252, 172, 42, 180, 0, 36, 42, 180, 0, 124, 27, 79, 42, 89, 180, 0, 124, 4, 96]
abbrev dktX4_put_1 : List UInt8 := dkwX4_put_1 ++ dktX4_put_2
def dkwX4_put_0 : List UInt8 := [27, 133, 9, 20, 0, 122, 184, 0, 48, 154, 0, 6, 16, 253, 172, 42, 180, 0, 124, 17, 1, 44]
abbrev dktX4_put_0 : List UInt8 := dkwX4_put_0 ++ dktX4_put_1
theorem dksX4_put_0 : cX4_put.data.toList.drop 0 = dktX4_put_0 := by decide +kernel
theorem dksX4_put_1 : cX4_put.data.toList.drop 22 = dktX4_put_1 := dk_seg dksX4_put_0 22 rfl rfl
theorem dksX4_put_2 : cX4_put.data.toList.drop 45 = dktX4_put_2 := dk_seg dksX4_put_1 23 rfl rfl
theorem dX4_put_0 : decode cX4_put 0 = .ok (.iload_n 1, 1) := dk_27 (dk_at dksX4_put_0 0 rfl rfl)
theorem dX4_put_1 : decode cX4_put 1 = .ok (.i2l, 1) := dk_133 (dk_at dksX4_put_0 1 rfl rfl)
theorem dX4_put_2 : decode cX4_put 2 = .ok (.lconst 0, 1) := dk_9 (dk_at dksX4_put_0 2 rfl rfl)
theorem dX4_put_3 : decode cX4_put 3 = .ok (.ldc2_w 122, 3) := dk_20 0 122 (dk_at dksX4_put_0 3 rfl rfl)
theorem dX4_put_6 : decode cX4_put 6 = .ok (.invokestatic 48, 3) := dk_184 0 48 (dk_at dksX4_put_0 6 rfl rfl)
theorem dX4_put_9 : decode cX4_put 9 = .ok (.ifCond .ne 6, 3) := dk_154 0 6 (dk_at dksX4_put_0 9 rfl rfl)
theorem dX4_put_12 : decode cX4_put 12 = .ok (.bipush (-3), 2) := dk_16 253 (dk_at dksX4_put_0 12 rfl rfl)
theorem dX4_put_14 : decode cX4_put 14 = .ok (.ireturn, 1) := dk_172 (dk_at dksX4_put_0 14 rfl rfl)
theorem dX4_put_15 : decode cX4_put 15 = .ok (.aload_n 0, 1) := dk_42 (dk_at dksX4_put_0 15 rfl rfl)
theorem dX4_put_16 : decode cX4_put 16 = .ok (.getfield 124, 3) := dk_180 0 124 (dk_at dksX4_put_0 16 rfl rfl)
theorem dX4_put_19 : decode cX4_put 19 = .ok (.sipush 300, 3) := dk_17 1 44 (dk_at dksX4_put_0 19 rfl rfl)
theorem dX4_put_22 : decode cX4_put 22 = .ok (.if_icmp .ne 6, 3) := dk_160 0 6 (dk_at dksX4_put_1 0 rfl rfl)
theorem dX4_put_25 : decode cX4_put 25 = .ok (.bipush (-4), 2) := dk_16 252 (dk_at dksX4_put_1 3 rfl rfl)
theorem dX4_put_27 : decode cX4_put 27 = .ok (.ireturn, 1) := dk_172 (dk_at dksX4_put_1 5 rfl rfl)
theorem dX4_put_28 : decode cX4_put 28 = .ok (.aload_n 0, 1) := dk_42 (dk_at dksX4_put_1 6 rfl rfl)
theorem dX4_put_29 : decode cX4_put 29 = .ok (.getfield 36, 3) := dk_180 0 36 (dk_at dksX4_put_1 7 rfl rfl)
theorem dX4_put_32 : decode cX4_put 32 = .ok (.aload_n 0, 1) := dk_42 (dk_at dksX4_put_1 10 rfl rfl)
theorem dX4_put_33 : decode cX4_put 33 = .ok (.getfield 124, 3) := dk_180 0 124 (dk_at dksX4_put_1 11 rfl rfl)
theorem dX4_put_36 : decode cX4_put 36 = .ok (.iload_n 1, 1) := dk_27 (dk_at dksX4_put_1 14 rfl rfl)
theorem dX4_put_37 : decode cX4_put 37 = .ok (.iastore, 1) := dk_79 (dk_at dksX4_put_1 15 rfl rfl)
theorem dX4_put_38 : decode cX4_put 38 = .ok (.aload_n 0, 1) := dk_42 (dk_at dksX4_put_1 16 rfl rfl)
theorem dX4_put_39 : decode cX4_put 39 = .ok (.dup, 1) := dk_89 (dk_at dksX4_put_1 17 rfl rfl)
theorem dX4_put_40 : decode cX4_put 40 = .ok (.getfield 124, 3) := dk_180 0 124 (dk_at dksX4_put_1 18 rfl rfl)
theorem dX4_put_43 : decode cX4_put 43 = .ok (.iconst 1, 1) := dk_4 (dk_at dksX4_put_1 21 rfl rfl)
theorem dX4_put_44 : decode cX4_put 44 = .ok (.iadd, 1) := dk_96 (dk_at dksX4_put_1 22 rfl rfl)
theorem dX4_put_45 : decode cX4_put 45 = .ok (.putfield 124, 3) := dk_181 0 124 (dk_at dksX4_put_2 0 rfl rfl)
theorem dX4_put_48 : decode cX4_put 48 = .ok (.aload_n 0, 1) := dk_42 (dk_at dksX4_put_2 3 rfl rfl)
theorem dX4_put_49 : decode cX4_put 49 = .ok (.getfield 124, 3) := dk_180 0 124 (dk_at dksX4_put_2 4 rfl rfl)
theorem dX4_put_52 : decode cX4_put 52 = .ok (.ireturn, 1) := dk_172 (dk_at dksX4_put_2 7 rfl rfl)
abbrev cX4_read : ByteArray := prog_9_method_35_code
def yX4_read : MethodName := ⟨RX4, "read", "()I"⟩
def dkwX4_read_5 : List UInt8 := [172]
abbrev dktX4_read_5 : List UInt8 := dkwX4_read_5 ++ []
def dkwX4_read_4 : List UInt8 := [180, 0, 127, 61, 42, 3, 181, 0, 124, 27, 153, 0, 10, 42, 182, 0, 64, 167, 0, 7, 16, 156, 28, 100]
abbrev dktX4_read_4 : List UInt8 := dkwX4_read_4 ++ dktX4_read_5
def dkwX4_read_3 : List UInt8 := [160, 0, 19, 42, 180, 0, 16, 42, 180, 0, 45, 46, 158, 0, 7, 4, 167, 0, 4, 3, 60, 42]
abbrev dktX4_read_3 : List UInt8 := dkwX4_read_3 ++ dktX4_read_4
def dkwX4_read_2 : List UInt8 := [167, 0, 7, 42, 182, 0, 175, 42, 180, 0, 137, 154, 0, 30, 42, 180, 0, 127, 42, 180, 0, 124]
abbrev dktX4_read_2 : List UInt8 := dkwX4_read_2 ++ dktX4_read_3
def dkwX4_read_1 : List UInt8 := [181, 0, 137, 42, 3, 3, 3, 182, 0, 60, 42, 182, 0, 130, 16, 91, 160, 0, 10, 42, 182, 0, 172]
abbrev dktX4_read_1 : List UInt8 := dkwX4_read_1 ++ dktX4_read_2
def dkwX4_read_0 : List UInt8 := [42, 180, 0, 45, 16, 60, 160, 0, 11, 42, 3, 181, 0, 124, 16, 252, 172, 42, 3, 181, 0, 127, 42, 3]
abbrev dktX4_read_0 : List UInt8 := dkwX4_read_0 ++ dktX4_read_1
theorem dksX4_read_0 : cX4_read.data.toList.drop 0 = dktX4_read_0 := by decide +kernel
theorem dksX4_read_1 : cX4_read.data.toList.drop 24 = dktX4_read_1 := dk_seg dksX4_read_0 24 rfl rfl
theorem dksX4_read_2 : cX4_read.data.toList.drop 47 = dktX4_read_2 := dk_seg dksX4_read_1 23 rfl rfl
theorem dksX4_read_3 : cX4_read.data.toList.drop 69 = dktX4_read_3 := dk_seg dksX4_read_2 22 rfl rfl
theorem dksX4_read_4 : cX4_read.data.toList.drop 91 = dktX4_read_4 := dk_seg dksX4_read_3 22 rfl rfl
theorem dksX4_read_5 : cX4_read.data.toList.drop 115 = dktX4_read_5 := dk_seg dksX4_read_4 24 rfl rfl
theorem dX4_read_0 : decode cX4_read 0 = .ok (.aload_n 0, 1) := dk_42 (dk_at dksX4_read_0 0 rfl rfl)
theorem dX4_read_1 : decode cX4_read 1 = .ok (.getfield 45, 3) := dk_180 0 45 (dk_at dksX4_read_0 1 rfl rfl)
theorem dX4_read_4 : decode cX4_read 4 = .ok (.bipush 60, 2) := dk_16 60 (dk_at dksX4_read_0 4 rfl rfl)
theorem dX4_read_6 : decode cX4_read 6 = .ok (.if_icmp .ne 11, 3) := dk_160 0 11 (dk_at dksX4_read_0 6 rfl rfl)
theorem dX4_read_9 : decode cX4_read 9 = .ok (.aload_n 0, 1) := dk_42 (dk_at dksX4_read_0 9 rfl rfl)
theorem dX4_read_10 : decode cX4_read 10 = .ok (.iconst 0, 1) := dk_3 (dk_at dksX4_read_0 10 rfl rfl)
theorem dX4_read_11 : decode cX4_read 11 = .ok (.putfield 124, 3) := dk_181 0 124 (dk_at dksX4_read_0 11 rfl rfl)
theorem dX4_read_14 : decode cX4_read 14 = .ok (.bipush (-4), 2) := dk_16 252 (dk_at dksX4_read_0 14 rfl rfl)
theorem dX4_read_16 : decode cX4_read 16 = .ok (.ireturn, 1) := dk_172 (dk_at dksX4_read_0 16 rfl rfl)
theorem dX4_read_17 : decode cX4_read 17 = .ok (.aload_n 0, 1) := dk_42 (dk_at dksX4_read_0 17 rfl rfl)
theorem dX4_read_18 : decode cX4_read 18 = .ok (.iconst 0, 1) := dk_3 (dk_at dksX4_read_0 18 rfl rfl)
theorem dX4_read_19 : decode cX4_read 19 = .ok (.putfield 127, 3) := dk_181 0 127 (dk_at dksX4_read_0 19 rfl rfl)
theorem dX4_read_22 : decode cX4_read 22 = .ok (.aload_n 0, 1) := dk_42 (dk_at dksX4_read_0 22 rfl rfl)
theorem dX4_read_23 : decode cX4_read 23 = .ok (.iconst 0, 1) := dk_3 (dk_at dksX4_read_0 23 rfl rfl)
theorem dX4_read_24 : decode cX4_read 24 = .ok (.putfield 137, 3) := dk_181 0 137 (dk_at dksX4_read_1 0 rfl rfl)
theorem dX4_read_27 : decode cX4_read 27 = .ok (.aload_n 0, 1) := dk_42 (dk_at dksX4_read_1 3 rfl rfl)
theorem dX4_read_28 : decode cX4_read 28 = .ok (.iconst 0, 1) := dk_3 (dk_at dksX4_read_1 4 rfl rfl)
theorem dX4_read_29 : decode cX4_read 29 = .ok (.iconst 0, 1) := dk_3 (dk_at dksX4_read_1 5 rfl rfl)
theorem dX4_read_30 : decode cX4_read 30 = .ok (.iconst 0, 1) := dk_3 (dk_at dksX4_read_1 6 rfl rfl)
theorem dX4_read_31 : decode cX4_read 31 = .ok (.invokevirtual 60, 3) := dk_182 0 60 (dk_at dksX4_read_1 7 rfl rfl)
theorem dX4_read_34 : decode cX4_read 34 = .ok (.aload_n 0, 1) := dk_42 (dk_at dksX4_read_1 10 rfl rfl)
theorem dX4_read_35 : decode cX4_read 35 = .ok (.invokevirtual 130, 3) := dk_182 0 130 (dk_at dksX4_read_1 11 rfl rfl)
theorem dX4_read_38 : decode cX4_read 38 = .ok (.bipush 91, 2) := dk_16 91 (dk_at dksX4_read_1 14 rfl rfl)
theorem dX4_read_40 : decode cX4_read 40 = .ok (.if_icmp .ne 10, 3) := dk_160 0 10 (dk_at dksX4_read_1 16 rfl rfl)
theorem dX4_read_43 : decode cX4_read 43 = .ok (.aload_n 0, 1) := dk_42 (dk_at dksX4_read_1 19 rfl rfl)
theorem dX4_read_44 : decode cX4_read 44 = .ok (.invokevirtual 172, 3) := dk_182 0 172 (dk_at dksX4_read_1 20 rfl rfl)
theorem dX4_read_47 : decode cX4_read 47 = .ok (.goto 7, 3) := dk_167 0 7 (dk_at dksX4_read_2 0 rfl rfl)
theorem dX4_read_50 : decode cX4_read 50 = .ok (.aload_n 0, 1) := dk_42 (dk_at dksX4_read_2 3 rfl rfl)
theorem dX4_read_51 : decode cX4_read 51 = .ok (.invokevirtual 175, 3) := dk_182 0 175 (dk_at dksX4_read_2 4 rfl rfl)
theorem dX4_read_54 : decode cX4_read 54 = .ok (.aload_n 0, 1) := dk_42 (dk_at dksX4_read_2 7 rfl rfl)
theorem dX4_read_55 : decode cX4_read 55 = .ok (.getfield 137, 3) := dk_180 0 137 (dk_at dksX4_read_2 8 rfl rfl)
theorem dX4_read_58 : decode cX4_read 58 = .ok (.ifCond .ne 30, 3) := dk_154 0 30 (dk_at dksX4_read_2 11 rfl rfl)
theorem dX4_read_61 : decode cX4_read 61 = .ok (.aload_n 0, 1) := dk_42 (dk_at dksX4_read_2 14 rfl rfl)
theorem dX4_read_62 : decode cX4_read 62 = .ok (.getfield 127, 3) := dk_180 0 127 (dk_at dksX4_read_2 15 rfl rfl)
theorem dX4_read_65 : decode cX4_read 65 = .ok (.aload_n 0, 1) := dk_42 (dk_at dksX4_read_2 18 rfl rfl)
theorem dX4_read_66 : decode cX4_read 66 = .ok (.getfield 124, 3) := dk_180 0 124 (dk_at dksX4_read_2 19 rfl rfl)
theorem dX4_read_69 : decode cX4_read 69 = .ok (.if_icmp .ne 19, 3) := dk_160 0 19 (dk_at dksX4_read_3 0 rfl rfl)
theorem dX4_read_72 : decode cX4_read 72 = .ok (.aload_n 0, 1) := dk_42 (dk_at dksX4_read_3 3 rfl rfl)
theorem dX4_read_73 : decode cX4_read 73 = .ok (.getfield 16, 3) := dk_180 0 16 (dk_at dksX4_read_3 4 rfl rfl)
theorem dX4_read_76 : decode cX4_read 76 = .ok (.aload_n 0, 1) := dk_42 (dk_at dksX4_read_3 7 rfl rfl)
theorem dX4_read_77 : decode cX4_read 77 = .ok (.getfield 45, 3) := dk_180 0 45 (dk_at dksX4_read_3 8 rfl rfl)
theorem dX4_read_80 : decode cX4_read 80 = .ok (.iaload, 1) := dk_46 (dk_at dksX4_read_3 11 rfl rfl)
theorem dX4_read_81 : decode cX4_read 81 = .ok (.ifCond .le 7, 3) := dk_158 0 7 (dk_at dksX4_read_3 12 rfl rfl)
theorem dX4_read_84 : decode cX4_read 84 = .ok (.iconst 1, 1) := dk_4 (dk_at dksX4_read_3 15 rfl rfl)
theorem dX4_read_85 : decode cX4_read 85 = .ok (.goto 4, 3) := dk_167 0 4 (dk_at dksX4_read_3 16 rfl rfl)
theorem dX4_read_88 : decode cX4_read 88 = .ok (.iconst 0, 1) := dk_3 (dk_at dksX4_read_3 19 rfl rfl)
theorem dX4_read_89 : decode cX4_read 89 = .ok (.istore_n 1, 1) := dk_60 (dk_at dksX4_read_3 20 rfl rfl)
theorem dX4_read_90 : decode cX4_read 90 = .ok (.aload_n 0, 1) := dk_42 (dk_at dksX4_read_3 21 rfl rfl)
theorem dX4_read_91 : decode cX4_read 91 = .ok (.getfield 127, 3) := dk_180 0 127 (dk_at dksX4_read_4 0 rfl rfl)
theorem dX4_read_94 : decode cX4_read 94 = .ok (.istore_n 2, 1) := dk_61 (dk_at dksX4_read_4 3 rfl rfl)
theorem dX4_read_95 : decode cX4_read 95 = .ok (.aload_n 0, 1) := dk_42 (dk_at dksX4_read_4 4 rfl rfl)
theorem dX4_read_96 : decode cX4_read 96 = .ok (.iconst 0, 1) := dk_3 (dk_at dksX4_read_4 5 rfl rfl)
theorem dX4_read_97 : decode cX4_read 97 = .ok (.putfield 124, 3) := dk_181 0 124 (dk_at dksX4_read_4 6 rfl rfl)
theorem dX4_read_100 : decode cX4_read 100 = .ok (.iload_n 1, 1) := dk_27 (dk_at dksX4_read_4 9 rfl rfl)
theorem dX4_read_101 : decode cX4_read 101 = .ok (.ifCond .eq 10, 3) := dk_153 0 10 (dk_at dksX4_read_4 10 rfl rfl)
theorem dX4_read_104 : decode cX4_read 104 = .ok (.aload_n 0, 1) := dk_42 (dk_at dksX4_read_4 13 rfl rfl)
theorem dX4_read_105 : decode cX4_read 105 = .ok (.invokevirtual 64, 3) := dk_182 0 64 (dk_at dksX4_read_4 14 rfl rfl)
theorem dX4_read_108 : decode cX4_read 108 = .ok (.goto 7, 3) := dk_167 0 7 (dk_at dksX4_read_4 17 rfl rfl)
theorem dX4_read_111 : decode cX4_read 111 = .ok (.bipush (-100), 2) := dk_16 156 (dk_at dksX4_read_4 20 rfl rfl)
theorem dX4_read_113 : decode cX4_read 113 = .ok (.iload_n 2, 1) := dk_28 (dk_at dksX4_read_4 22 rfl rfl)
theorem dX4_read_114 : decode cX4_read 114 = .ok (.isub, 1) := dk_100 (dk_at dksX4_read_4 23 rfl rfl)
theorem dX4_read_115 : decode cX4_read 115 = .ok (.ireturn, 1) := dk_172 (dk_at dksX4_read_5 0 rfl rfl)
abbrev cX4_here : ByteArray := prog_9_method_25_code
def yX4_here : MethodName := ⟨RX4, "here", "()I"⟩
def dkwX4_here_1 : List UInt8 := [172]
abbrev dktX4_here_1 : List UInt8 := dkwX4_here_1 ++ []
def dkwX4_here_0 : List UInt8 := [42, 180, 0, 127, 42, 180, 0, 124, 162, 0, 15, 42, 180, 0, 36, 42, 180, 0, 127, 46, 167, 0, 4, 2]
abbrev dktX4_here_0 : List UInt8 := dkwX4_here_0 ++ dktX4_here_1
theorem dksX4_here_0 : cX4_here.data.toList.drop 0 = dktX4_here_0 := by decide +kernel
theorem dksX4_here_1 : cX4_here.data.toList.drop 24 = dktX4_here_1 := dk_seg dksX4_here_0 24 rfl rfl
theorem dX4_here_0 : decode cX4_here 0 = .ok (.aload_n 0, 1) := dk_42 (dk_at dksX4_here_0 0 rfl rfl)
theorem dX4_here_1 : decode cX4_here 1 = .ok (.getfield 127, 3) := dk_180 0 127 (dk_at dksX4_here_0 1 rfl rfl)
theorem dX4_here_4 : decode cX4_here 4 = .ok (.aload_n 0, 1) := dk_42 (dk_at dksX4_here_0 4 rfl rfl)
theorem dX4_here_5 : decode cX4_here 5 = .ok (.getfield 124, 3) := dk_180 0 124 (dk_at dksX4_here_0 5 rfl rfl)
theorem dX4_here_8 : decode cX4_here 8 = .ok (.if_icmp .ge 15, 3) := dk_162 0 15 (dk_at dksX4_here_0 8 rfl rfl)
theorem dX4_here_11 : decode cX4_here 11 = .ok (.aload_n 0, 1) := dk_42 (dk_at dksX4_here_0 11 rfl rfl)
theorem dX4_here_12 : decode cX4_here 12 = .ok (.getfield 36, 3) := dk_180 0 36 (dk_at dksX4_here_0 12 rfl rfl)
theorem dX4_here_15 : decode cX4_here 15 = .ok (.aload_n 0, 1) := dk_42 (dk_at dksX4_here_0 15 rfl rfl)
theorem dX4_here_16 : decode cX4_here 16 = .ok (.getfield 127, 3) := dk_180 0 127 (dk_at dksX4_here_0 16 rfl rfl)
theorem dX4_here_19 : decode cX4_here 19 = .ok (.iaload, 1) := dk_46 (dk_at dksX4_here_0 19 rfl rfl)
theorem dX4_here_20 : decode cX4_here 20 = .ok (.goto 4, 3) := dk_167 0 4 (dk_at dksX4_here_0 20 rfl rfl)
theorem dX4_here_23 : decode cX4_here 23 = .ok (.iconst (-1), 1) := dk_2 (dk_at dksX4_here_0 23 rfl rfl)
theorem dX4_here_24 : decode cX4_here 24 = .ok (.ireturn, 1) := dk_172 (dk_at dksX4_here_1 0 rfl rfl)
abbrev cX4_bent : ByteArray := prog_9_method_33_code
def yX4_bent : MethodName := ⟨RX4, "bent", "()V"⟩
def dkwX4_bent_4 : List UInt8 := [180, 0, 45, 27, 28, 96, 79, 177]
abbrev dktX4_bent_4 : List UInt8 := dkwX4_bent_4 ++ []
def dkwX4_bent_3 : List UInt8 := [180, 0, 7, 42, 180, 0, 45, 6, 79, 42, 180, 0, 13, 42, 180, 0, 45, 27, 79, 42, 180, 0, 16, 42]
abbrev dktX4_bent_3 : List UInt8 := dkwX4_bent_3 ++ dktX4_bent_4
def dkwX4_bent_2 : List UInt8 := [154, 0, 7, 4, 167, 0, 4, 3, 181, 0, 137, 42, 16, 93, 182, 0, 145, 42, 5, 182, 0, 169, 42]
abbrev dktX4_bent_2 : List UInt8 := dkwX4_bent_2 ++ dktX4_bent_3
def dkwX4_bent_1 : List UInt8 := [16, 91, 182, 0, 145, 42, 27, 182, 0, 165, 61, 42, 42, 180, 0, 137, 154, 0, 9, 27, 28, 96]
abbrev dktX4_bent_1 : List UInt8 := dkwX4_bent_1 ++ dktX4_bent_2
def dkwX4_bent_0 : List UInt8 := [42, 16, 91, 182, 0, 145, 42, 3, 182, 0, 165, 60, 42, 16, 93, 182, 0, 145, 42, 3, 182, 0, 169, 42]
abbrev dktX4_bent_0 : List UInt8 := dkwX4_bent_0 ++ dktX4_bent_1
theorem dksX4_bent_0 : cX4_bent.data.toList.drop 0 = dktX4_bent_0 := by decide +kernel
theorem dksX4_bent_1 : cX4_bent.data.toList.drop 24 = dktX4_bent_1 := dk_seg dksX4_bent_0 24 rfl rfl
theorem dksX4_bent_2 : cX4_bent.data.toList.drop 46 = dktX4_bent_2 := dk_seg dksX4_bent_1 22 rfl rfl
theorem dksX4_bent_3 : cX4_bent.data.toList.drop 69 = dktX4_bent_3 := dk_seg dksX4_bent_2 23 rfl rfl
theorem dksX4_bent_4 : cX4_bent.data.toList.drop 93 = dktX4_bent_4 := dk_seg dksX4_bent_3 24 rfl rfl
theorem dX4_bent_0 : decode cX4_bent 0 = .ok (.aload_n 0, 1) := dk_42 (dk_at dksX4_bent_0 0 rfl rfl)
theorem dX4_bent_1 : decode cX4_bent 1 = .ok (.bipush 91, 2) := dk_16 91 (dk_at dksX4_bent_0 1 rfl rfl)
theorem dX4_bent_3 : decode cX4_bent 3 = .ok (.invokevirtual 145, 3) := dk_182 0 145 (dk_at dksX4_bent_0 3 rfl rfl)
theorem dX4_bent_6 : decode cX4_bent 6 = .ok (.aload_n 0, 1) := dk_42 (dk_at dksX4_bent_0 6 rfl rfl)
theorem dX4_bent_7 : decode cX4_bent 7 = .ok (.iconst 0, 1) := dk_3 (dk_at dksX4_bent_0 7 rfl rfl)
theorem dX4_bent_8 : decode cX4_bent 8 = .ok (.invokevirtual 165, 3) := dk_182 0 165 (dk_at dksX4_bent_0 8 rfl rfl)
theorem dX4_bent_11 : decode cX4_bent 11 = .ok (.istore_n 1, 1) := dk_60 (dk_at dksX4_bent_0 11 rfl rfl)
theorem dX4_bent_12 : decode cX4_bent 12 = .ok (.aload_n 0, 1) := dk_42 (dk_at dksX4_bent_0 12 rfl rfl)
theorem dX4_bent_13 : decode cX4_bent 13 = .ok (.bipush 93, 2) := dk_16 93 (dk_at dksX4_bent_0 13 rfl rfl)
theorem dX4_bent_15 : decode cX4_bent 15 = .ok (.invokevirtual 145, 3) := dk_182 0 145 (dk_at dksX4_bent_0 15 rfl rfl)
theorem dX4_bent_18 : decode cX4_bent 18 = .ok (.aload_n 0, 1) := dk_42 (dk_at dksX4_bent_0 18 rfl rfl)
theorem dX4_bent_19 : decode cX4_bent 19 = .ok (.iconst 0, 1) := dk_3 (dk_at dksX4_bent_0 19 rfl rfl)
theorem dX4_bent_20 : decode cX4_bent 20 = .ok (.invokevirtual 169, 3) := dk_182 0 169 (dk_at dksX4_bent_0 20 rfl rfl)
theorem dX4_bent_23 : decode cX4_bent 23 = .ok (.aload_n 0, 1) := dk_42 (dk_at dksX4_bent_0 23 rfl rfl)
theorem dX4_bent_24 : decode cX4_bent 24 = .ok (.bipush 91, 2) := dk_16 91 (dk_at dksX4_bent_1 0 rfl rfl)
theorem dX4_bent_26 : decode cX4_bent 26 = .ok (.invokevirtual 145, 3) := dk_182 0 145 (dk_at dksX4_bent_1 2 rfl rfl)
theorem dX4_bent_29 : decode cX4_bent 29 = .ok (.aload_n 0, 1) := dk_42 (dk_at dksX4_bent_1 5 rfl rfl)
theorem dX4_bent_30 : decode cX4_bent 30 = .ok (.iload_n 1, 1) := dk_27 (dk_at dksX4_bent_1 6 rfl rfl)
theorem dX4_bent_31 : decode cX4_bent 31 = .ok (.invokevirtual 165, 3) := dk_182 0 165 (dk_at dksX4_bent_1 7 rfl rfl)
theorem dX4_bent_34 : decode cX4_bent 34 = .ok (.istore_n 2, 1) := dk_61 (dk_at dksX4_bent_1 10 rfl rfl)
theorem dX4_bent_35 : decode cX4_bent 35 = .ok (.aload_n 0, 1) := dk_42 (dk_at dksX4_bent_1 11 rfl rfl)
theorem dX4_bent_36 : decode cX4_bent 36 = .ok (.aload_n 0, 1) := dk_42 (dk_at dksX4_bent_1 12 rfl rfl)
theorem dX4_bent_37 : decode cX4_bent 37 = .ok (.getfield 137, 3) := dk_180 0 137 (dk_at dksX4_bent_1 13 rfl rfl)
theorem dX4_bent_40 : decode cX4_bent 40 = .ok (.ifCond .ne 9, 3) := dk_154 0 9 (dk_at dksX4_bent_1 16 rfl rfl)
theorem dX4_bent_43 : decode cX4_bent 43 = .ok (.iload_n 1, 1) := dk_27 (dk_at dksX4_bent_1 19 rfl rfl)
theorem dX4_bent_44 : decode cX4_bent 44 = .ok (.iload_n 2, 1) := dk_28 (dk_at dksX4_bent_1 20 rfl rfl)
theorem dX4_bent_45 : decode cX4_bent 45 = .ok (.iadd, 1) := dk_96 (dk_at dksX4_bent_1 21 rfl rfl)
theorem dX4_bent_46 : decode cX4_bent 46 = .ok (.ifCond .ne 7, 3) := dk_154 0 7 (dk_at dksX4_bent_2 0 rfl rfl)
theorem dX4_bent_49 : decode cX4_bent 49 = .ok (.iconst 1, 1) := dk_4 (dk_at dksX4_bent_2 3 rfl rfl)
theorem dX4_bent_50 : decode cX4_bent 50 = .ok (.goto 4, 3) := dk_167 0 4 (dk_at dksX4_bent_2 4 rfl rfl)
theorem dX4_bent_53 : decode cX4_bent 53 = .ok (.iconst 0, 1) := dk_3 (dk_at dksX4_bent_2 7 rfl rfl)
theorem dX4_bent_54 : decode cX4_bent 54 = .ok (.putfield 137, 3) := dk_181 0 137 (dk_at dksX4_bent_2 8 rfl rfl)
theorem dX4_bent_57 : decode cX4_bent 57 = .ok (.aload_n 0, 1) := dk_42 (dk_at dksX4_bent_2 11 rfl rfl)
theorem dX4_bent_58 : decode cX4_bent 58 = .ok (.bipush 93, 2) := dk_16 93 (dk_at dksX4_bent_2 12 rfl rfl)
theorem dX4_bent_60 : decode cX4_bent 60 = .ok (.invokevirtual 145, 3) := dk_182 0 145 (dk_at dksX4_bent_2 14 rfl rfl)
theorem dX4_bent_63 : decode cX4_bent 63 = .ok (.aload_n 0, 1) := dk_42 (dk_at dksX4_bent_2 17 rfl rfl)
theorem dX4_bent_64 : decode cX4_bent 64 = .ok (.iconst 2, 1) := dk_5 (dk_at dksX4_bent_2 18 rfl rfl)
theorem dX4_bent_65 : decode cX4_bent 65 = .ok (.invokevirtual 169, 3) := dk_182 0 169 (dk_at dksX4_bent_2 19 rfl rfl)
theorem dX4_bent_68 : decode cX4_bent 68 = .ok (.aload_n 0, 1) := dk_42 (dk_at dksX4_bent_2 22 rfl rfl)
theorem dX4_bent_69 : decode cX4_bent 69 = .ok (.getfield 7, 3) := dk_180 0 7 (dk_at dksX4_bent_3 0 rfl rfl)
theorem dX4_bent_72 : decode cX4_bent 72 = .ok (.aload_n 0, 1) := dk_42 (dk_at dksX4_bent_3 3 rfl rfl)
theorem dX4_bent_73 : decode cX4_bent 73 = .ok (.getfield 45, 3) := dk_180 0 45 (dk_at dksX4_bent_3 4 rfl rfl)
theorem dX4_bent_76 : decode cX4_bent 76 = .ok (.iconst 3, 1) := dk_6 (dk_at dksX4_bent_3 7 rfl rfl)
theorem dX4_bent_77 : decode cX4_bent 77 = .ok (.iastore, 1) := dk_79 (dk_at dksX4_bent_3 8 rfl rfl)
theorem dX4_bent_78 : decode cX4_bent 78 = .ok (.aload_n 0, 1) := dk_42 (dk_at dksX4_bent_3 9 rfl rfl)
theorem dX4_bent_79 : decode cX4_bent 79 = .ok (.getfield 13, 3) := dk_180 0 13 (dk_at dksX4_bent_3 10 rfl rfl)
theorem dX4_bent_82 : decode cX4_bent 82 = .ok (.aload_n 0, 1) := dk_42 (dk_at dksX4_bent_3 13 rfl rfl)
theorem dX4_bent_83 : decode cX4_bent 83 = .ok (.getfield 45, 3) := dk_180 0 45 (dk_at dksX4_bent_3 14 rfl rfl)
theorem dX4_bent_86 : decode cX4_bent 86 = .ok (.iload_n 1, 1) := dk_27 (dk_at dksX4_bent_3 17 rfl rfl)
theorem dX4_bent_87 : decode cX4_bent 87 = .ok (.iastore, 1) := dk_79 (dk_at dksX4_bent_3 18 rfl rfl)
theorem dX4_bent_88 : decode cX4_bent 88 = .ok (.aload_n 0, 1) := dk_42 (dk_at dksX4_bent_3 19 rfl rfl)
theorem dX4_bent_89 : decode cX4_bent 89 = .ok (.getfield 16, 3) := dk_180 0 16 (dk_at dksX4_bent_3 20 rfl rfl)
theorem dX4_bent_92 : decode cX4_bent 92 = .ok (.aload_n 0, 1) := dk_42 (dk_at dksX4_bent_3 23 rfl rfl)
theorem dX4_bent_93 : decode cX4_bent 93 = .ok (.getfield 45, 3) := dk_180 0 45 (dk_at dksX4_bent_4 0 rfl rfl)
theorem dX4_bent_96 : decode cX4_bent 96 = .ok (.iload_n 1, 1) := dk_27 (dk_at dksX4_bent_4 3 rfl rfl)
theorem dX4_bent_97 : decode cX4_bent 97 = .ok (.iload_n 2, 1) := dk_28 (dk_at dksX4_bent_4 4 rfl rfl)
theorem dX4_bent_98 : decode cX4_bent 98 = .ok (.iadd, 1) := dk_96 (dk_at dksX4_bent_4 5 rfl rfl)
theorem dX4_bent_99 : decode cX4_bent 99 = .ok (.iastore, 1) := dk_79 (dk_at dksX4_bent_4 6 rfl rfl)
theorem dX4_bent_100 : decode cX4_bent 100 = .ok (.return_, 1) := dk_177 (dk_at dksX4_bent_4 7 rfl rfl)
abbrev cX4_take : ByteArray := prog_9_method_27_code
def yX4_take : MethodName := ⟨RX4, "take", "(I)V"⟩
def dkwX4_take_1 : List UInt8 := [42, 89, 180, 0, 127, 42, 180, 0, 137, 153, 0, 7, 3, 167, 0, 4, 4, 96, 181, 0, 127, 177]
abbrev dktX4_take_1 : List UInt8 := dkwX4_take_1 ++ []
def dkwX4_take_0 : List UInt8 := [42, 42, 180, 0, 137, 154, 0, 11, 42, 182, 0, 130, 27, 159, 0, 7, 4, 167, 0, 4, 3, 181, 0, 137]
abbrev dktX4_take_0 : List UInt8 := dkwX4_take_0 ++ dktX4_take_1
theorem dksX4_take_0 : cX4_take.data.toList.drop 0 = dktX4_take_0 := by decide +kernel
theorem dksX4_take_1 : cX4_take.data.toList.drop 24 = dktX4_take_1 := dk_seg dksX4_take_0 24 rfl rfl
theorem dX4_take_0 : decode cX4_take 0 = .ok (.aload_n 0, 1) := dk_42 (dk_at dksX4_take_0 0 rfl rfl)
theorem dX4_take_1 : decode cX4_take 1 = .ok (.aload_n 0, 1) := dk_42 (dk_at dksX4_take_0 1 rfl rfl)
theorem dX4_take_2 : decode cX4_take 2 = .ok (.getfield 137, 3) := dk_180 0 137 (dk_at dksX4_take_0 2 rfl rfl)
theorem dX4_take_5 : decode cX4_take 5 = .ok (.ifCond .ne 11, 3) := dk_154 0 11 (dk_at dksX4_take_0 5 rfl rfl)
theorem dX4_take_8 : decode cX4_take 8 = .ok (.aload_n 0, 1) := dk_42 (dk_at dksX4_take_0 8 rfl rfl)
theorem dX4_take_9 : decode cX4_take 9 = .ok (.invokevirtual 130, 3) := dk_182 0 130 (dk_at dksX4_take_0 9 rfl rfl)
theorem dX4_take_12 : decode cX4_take 12 = .ok (.iload_n 1, 1) := dk_27 (dk_at dksX4_take_0 12 rfl rfl)
theorem dX4_take_13 : decode cX4_take 13 = .ok (.if_icmp .eq 7, 3) := dk_159 0 7 (dk_at dksX4_take_0 13 rfl rfl)
theorem dX4_take_16 : decode cX4_take 16 = .ok (.iconst 1, 1) := dk_4 (dk_at dksX4_take_0 16 rfl rfl)
theorem dX4_take_17 : decode cX4_take 17 = .ok (.goto 4, 3) := dk_167 0 4 (dk_at dksX4_take_0 17 rfl rfl)
theorem dX4_take_20 : decode cX4_take 20 = .ok (.iconst 0, 1) := dk_3 (dk_at dksX4_take_0 20 rfl rfl)
theorem dX4_take_21 : decode cX4_take 21 = .ok (.putfield 137, 3) := dk_181 0 137 (dk_at dksX4_take_0 21 rfl rfl)
theorem dX4_take_24 : decode cX4_take 24 = .ok (.aload_n 0, 1) := dk_42 (dk_at dksX4_take_1 0 rfl rfl)
theorem dX4_take_25 : decode cX4_take 25 = .ok (.dup, 1) := dk_89 (dk_at dksX4_take_1 1 rfl rfl)
theorem dX4_take_26 : decode cX4_take 26 = .ok (.getfield 127, 3) := dk_180 0 127 (dk_at dksX4_take_1 2 rfl rfl)
theorem dX4_take_29 : decode cX4_take 29 = .ok (.aload_n 0, 1) := dk_42 (dk_at dksX4_take_1 5 rfl rfl)
theorem dX4_take_30 : decode cX4_take 30 = .ok (.getfield 137, 3) := dk_180 0 137 (dk_at dksX4_take_1 6 rfl rfl)
theorem dX4_take_33 : decode cX4_take 33 = .ok (.ifCond .eq 7, 3) := dk_153 0 7 (dk_at dksX4_take_1 9 rfl rfl)
theorem dX4_take_36 : decode cX4_take 36 = .ok (.iconst 0, 1) := dk_3 (dk_at dksX4_take_1 12 rfl rfl)
theorem dX4_take_37 : decode cX4_take 37 = .ok (.goto 4, 3) := dk_167 0 4 (dk_at dksX4_take_1 13 rfl rfl)
theorem dX4_take_40 : decode cX4_take 40 = .ok (.iconst 1, 1) := dk_4 (dk_at dksX4_take_1 16 rfl rfl)
theorem dX4_take_41 : decode cX4_take 41 = .ok (.iadd, 1) := dk_96 (dk_at dksX4_take_1 17 rfl rfl)
theorem dX4_take_42 : decode cX4_take 42 = .ok (.putfield 127, 3) := dk_181 0 127 (dk_at dksX4_take_1 18 rfl rfl)
theorem dX4_take_45 : decode cX4_take 45 = .ok (.return_, 1) := dk_177 (dk_at dksX4_take_1 21 rfl rfl)
abbrev cX4_row : ByteArray := prog_9_method_32_code
def yX4_row : MethodName := ⟨RX4, "row", "(I)I"⟩
def dkwX4_row_3 : List UInt8 := [182, 0, 162, 132, 2, 1, 167, 255, 210, 28, 172]
abbrev dktX4_row_3 : List UInt8 := dkwX4_row_3 ++ []
def dkwX4_row_2 : List UInt8 := [16, 6, 162, 0, 30, 42, 89, 180, 0, 127, 4, 96, 181, 0, 127, 42, 182, 0, 159, 42, 27, 28, 96]
abbrev dktX4_row_2 : List UInt8 := dkwX4_row_2 ++ dktX4_row_3
def dkwX4_row_1 : List UInt8 := [42, 27, 182, 0, 162, 4, 61, 42, 180, 0, 137, 154, 0, 45, 42, 182, 0, 130, 16, 47, 160, 0, 36, 28]
abbrev dktX4_row_1 : List UInt8 := dkwX4_row_1 ++ dktX4_row_2
def dkwX4_row_0 : List UInt8 := [3, 61, 42, 180, 0, 137, 154, 0, 14, 42, 182, 0, 130, 16, 93, 160, 0, 5, 3, 172, 42, 182, 0, 159]
abbrev dktX4_row_0 : List UInt8 := dkwX4_row_0 ++ dktX4_row_1
theorem dksX4_row_0 : cX4_row.data.toList.drop 0 = dktX4_row_0 := by decide +kernel
theorem dksX4_row_1 : cX4_row.data.toList.drop 24 = dktX4_row_1 := dk_seg dksX4_row_0 24 rfl rfl
theorem dksX4_row_2 : cX4_row.data.toList.drop 48 = dktX4_row_2 := dk_seg dksX4_row_1 24 rfl rfl
theorem dksX4_row_3 : cX4_row.data.toList.drop 71 = dktX4_row_3 := dk_seg dksX4_row_2 23 rfl rfl
theorem dX4_row_0 : decode cX4_row 0 = .ok (.iconst 0, 1) := dk_3 (dk_at dksX4_row_0 0 rfl rfl)
theorem dX4_row_1 : decode cX4_row 1 = .ok (.istore_n 2, 1) := dk_61 (dk_at dksX4_row_0 1 rfl rfl)
theorem dX4_row_2 : decode cX4_row 2 = .ok (.aload_n 0, 1) := dk_42 (dk_at dksX4_row_0 2 rfl rfl)
theorem dX4_row_3 : decode cX4_row 3 = .ok (.getfield 137, 3) := dk_180 0 137 (dk_at dksX4_row_0 3 rfl rfl)
theorem dX4_row_6 : decode cX4_row 6 = .ok (.ifCond .ne 14, 3) := dk_154 0 14 (dk_at dksX4_row_0 6 rfl rfl)
theorem dX4_row_9 : decode cX4_row 9 = .ok (.aload_n 0, 1) := dk_42 (dk_at dksX4_row_0 9 rfl rfl)
theorem dX4_row_10 : decode cX4_row 10 = .ok (.invokevirtual 130, 3) := dk_182 0 130 (dk_at dksX4_row_0 10 rfl rfl)
theorem dX4_row_13 : decode cX4_row 13 = .ok (.bipush 93, 2) := dk_16 93 (dk_at dksX4_row_0 13 rfl rfl)
theorem dX4_row_15 : decode cX4_row 15 = .ok (.if_icmp .ne 5, 3) := dk_160 0 5 (dk_at dksX4_row_0 15 rfl rfl)
theorem dX4_row_18 : decode cX4_row 18 = .ok (.iconst 0, 1) := dk_3 (dk_at dksX4_row_0 18 rfl rfl)
theorem dX4_row_19 : decode cX4_row 19 = .ok (.ireturn, 1) := dk_172 (dk_at dksX4_row_0 19 rfl rfl)
theorem dX4_row_20 : decode cX4_row 20 = .ok (.aload_n 0, 1) := dk_42 (dk_at dksX4_row_0 20 rfl rfl)
theorem dX4_row_21 : decode cX4_row 21 = .ok (.invokevirtual 159, 3) := dk_182 0 159 (dk_at dksX4_row_0 21 rfl rfl)
theorem dX4_row_24 : decode cX4_row 24 = .ok (.aload_n 0, 1) := dk_42 (dk_at dksX4_row_1 0 rfl rfl)
theorem dX4_row_25 : decode cX4_row 25 = .ok (.iload_n 1, 1) := dk_27 (dk_at dksX4_row_1 1 rfl rfl)
theorem dX4_row_26 : decode cX4_row 26 = .ok (.invokevirtual 162, 3) := dk_182 0 162 (dk_at dksX4_row_1 2 rfl rfl)
theorem dX4_row_29 : decode cX4_row 29 = .ok (.iconst 1, 1) := dk_4 (dk_at dksX4_row_1 5 rfl rfl)
theorem dX4_row_30 : decode cX4_row 30 = .ok (.istore_n 2, 1) := dk_61 (dk_at dksX4_row_1 6 rfl rfl)
theorem dX4_row_31 : decode cX4_row 31 = .ok (.aload_n 0, 1) := dk_42 (dk_at dksX4_row_1 7 rfl rfl)
theorem dX4_row_32 : decode cX4_row 32 = .ok (.getfield 137, 3) := dk_180 0 137 (dk_at dksX4_row_1 8 rfl rfl)
theorem dX4_row_35 : decode cX4_row 35 = .ok (.ifCond .ne 45, 3) := dk_154 0 45 (dk_at dksX4_row_1 11 rfl rfl)
theorem dX4_row_38 : decode cX4_row 38 = .ok (.aload_n 0, 1) := dk_42 (dk_at dksX4_row_1 14 rfl rfl)
theorem dX4_row_39 : decode cX4_row 39 = .ok (.invokevirtual 130, 3) := dk_182 0 130 (dk_at dksX4_row_1 15 rfl rfl)
theorem dX4_row_42 : decode cX4_row 42 = .ok (.bipush 47, 2) := dk_16 47 (dk_at dksX4_row_1 18 rfl rfl)
theorem dX4_row_44 : decode cX4_row 44 = .ok (.if_icmp .ne 36, 3) := dk_160 0 36 (dk_at dksX4_row_1 20 rfl rfl)
theorem dX4_row_47 : decode cX4_row 47 = .ok (.iload_n 2, 1) := dk_28 (dk_at dksX4_row_1 23 rfl rfl)
theorem dX4_row_48 : decode cX4_row 48 = .ok (.bipush 6, 2) := dk_16 6 (dk_at dksX4_row_2 0 rfl rfl)
theorem dX4_row_50 : decode cX4_row 50 = .ok (.if_icmp .ge 30, 3) := dk_162 0 30 (dk_at dksX4_row_2 2 rfl rfl)
theorem dX4_row_53 : decode cX4_row 53 = .ok (.aload_n 0, 1) := dk_42 (dk_at dksX4_row_2 5 rfl rfl)
theorem dX4_row_54 : decode cX4_row 54 = .ok (.dup, 1) := dk_89 (dk_at dksX4_row_2 6 rfl rfl)
theorem dX4_row_55 : decode cX4_row 55 = .ok (.getfield 127, 3) := dk_180 0 127 (dk_at dksX4_row_2 7 rfl rfl)
theorem dX4_row_58 : decode cX4_row 58 = .ok (.iconst 1, 1) := dk_4 (dk_at dksX4_row_2 10 rfl rfl)
theorem dX4_row_59 : decode cX4_row 59 = .ok (.iadd, 1) := dk_96 (dk_at dksX4_row_2 11 rfl rfl)
theorem dX4_row_60 : decode cX4_row 60 = .ok (.putfield 127, 3) := dk_181 0 127 (dk_at dksX4_row_2 12 rfl rfl)
theorem dX4_row_63 : decode cX4_row 63 = .ok (.aload_n 0, 1) := dk_42 (dk_at dksX4_row_2 15 rfl rfl)
theorem dX4_row_64 : decode cX4_row 64 = .ok (.invokevirtual 159, 3) := dk_182 0 159 (dk_at dksX4_row_2 16 rfl rfl)
theorem dX4_row_67 : decode cX4_row 67 = .ok (.aload_n 0, 1) := dk_42 (dk_at dksX4_row_2 19 rfl rfl)
theorem dX4_row_68 : decode cX4_row 68 = .ok (.iload_n 1, 1) := dk_27 (dk_at dksX4_row_2 20 rfl rfl)
theorem dX4_row_69 : decode cX4_row 69 = .ok (.iload_n 2, 1) := dk_28 (dk_at dksX4_row_2 21 rfl rfl)
theorem dX4_row_70 : decode cX4_row 70 = .ok (.iadd, 1) := dk_96 (dk_at dksX4_row_2 22 rfl rfl)
theorem dX4_row_71 : decode cX4_row 71 = .ok (.invokevirtual 162, 3) := dk_182 0 162 (dk_at dksX4_row_3 0 rfl rfl)
theorem dX4_row_74 : decode cX4_row 74 = .ok (.iinc 2 1, 3) := dk_132 2 1 (dk_at dksX4_row_3 3 rfl rfl)
theorem dX4_row_77 : decode cX4_row 77 = .ok (.goto (-46), 3) := dk_167 255 210 (dk_at dksX4_row_3 6 rfl rfl)
theorem dX4_row_80 : decode cX4_row 80 = .ok (.iload_n 2, 1) := dk_28 (dk_at dksX4_row_3 9 rfl rfl)
theorem dX4_row_81 : decode cX4_row 81 = .ok (.ireturn, 1) := dk_172 (dk_at dksX4_row_3 10 rfl rfl)
abbrev cX4_figure : ByteArray := prog_9_method_30_code
def yX4_figure : MethodName := ⟨RX4, "figure", "()V"⟩
def dkwX4_figure_9 : List UInt8 := [181, 0, 156, 177]
abbrev dktX4_figure_9 : List UInt8 := dkwX4_figure_9 ++ []
def dkwX4_figure_8 : List UInt8 := [42, 89, 180, 0, 127, 4, 96, 181, 0, 127, 167, 255, 159, 42, 27, 153, 0, 7, 33, 167, 0, 5, 33, 117]
abbrev dktX4_figure_8 : List UInt8 := dkwX4_figure_8 ++ dktX4_figure_9
def dkwX4_figure_7 : List UInt8 := [3, 54, 6, 42, 21, 6, 181, 0, 137, 21, 6, 154, 0, 23, 20, 0, 154, 33, 105, 21, 5, 133, 101, 66]
abbrev dktX4_figure_7 : List UInt8 := dkwX4_figure_7 ++ dktX4_figure_8
def dkwX4_figure_6 : List UInt8 := [148, 154, 0, 23, 21, 5, 27, 153, 0, 8, 16, 8, 167, 0, 5, 16, 7, 164, 0, 7, 4, 167, 0, 4]
abbrev dktX4_figure_6 : List UInt8 := dkwX4_figure_6 ++ dktX4_figure_7
def dkwX4_figure_5 : List UInt8 := [154, 0, 85, 42, 182, 0, 130, 16, 48, 100, 54, 5, 33, 20, 0, 152, 148, 155, 0, 27, 33, 20, 0, 152]
abbrev dktX4_figure_5 : List UInt8 := dkwX4_figure_5 ++ dktX4_figure_6
def dkwX4_figure_4 : List UInt8 := [180, 0, 127, 4, 96, 181, 0, 127, 42, 182, 0, 149, 153, 0, 96, 28, 154, 0, 92, 42, 180, 0, 137]
abbrev dktX4_figure_4 : List UInt8 := dkwX4_figure_4 ++ dktX4_figure_5
def dkwX4_figure_3 : List UInt8 := [16, 48, 160, 0, 7, 4, 167, 0, 4, 3, 61, 42, 182, 0, 130, 16, 48, 100, 116, 133, 66, 42, 89]
abbrev dktX4_figure_3 : List UInt8 := dkwX4_figure_3 ++ dktX4_figure_4
def dkwX4_figure_2 : List UInt8 := [27, 153, 0, 18, 42, 182, 0, 130, 16, 48, 160, 0, 9, 42, 4, 181, 0, 137, 177, 42, 182, 0, 130]
abbrev dktX4_figure_2 : List UInt8 := dkwX4_figure_2 ++ dktX4_figure_3
def dkwX4_figure_1 : List UInt8 := [89, 180, 0, 127, 27, 153, 0, 7, 4, 167, 0, 4, 3, 96, 181, 0, 127, 42, 182, 0, 149, 153, 0, 16]
abbrev dktX4_figure_1 : List UInt8 := dkwX4_figure_1 ++ dktX4_figure_2
def dkwX4_figure_0 : List UInt8 := [42, 180, 0, 137, 153, 0, 4, 177, 42, 182, 0, 130, 16, 45, 160, 0, 7, 4, 167, 0, 4, 3, 60, 42]
abbrev dktX4_figure_0 : List UInt8 := dkwX4_figure_0 ++ dktX4_figure_1
theorem dksX4_figure_0 : cX4_figure.data.toList.drop 0 = dktX4_figure_0 := by decide +kernel
theorem dksX4_figure_1 : cX4_figure.data.toList.drop 24 = dktX4_figure_1 := dk_seg dksX4_figure_0 24 rfl rfl
theorem dksX4_figure_2 : cX4_figure.data.toList.drop 48 = dktX4_figure_2 := dk_seg dksX4_figure_1 24 rfl rfl
theorem dksX4_figure_3 : cX4_figure.data.toList.drop 71 = dktX4_figure_3 := dk_seg dksX4_figure_2 23 rfl rfl
theorem dksX4_figure_4 : cX4_figure.data.toList.drop 94 = dktX4_figure_4 := dk_seg dksX4_figure_3 23 rfl rfl
theorem dksX4_figure_5 : cX4_figure.data.toList.drop 117 = dktX4_figure_5 := dk_seg dksX4_figure_4 23 rfl rfl
theorem dksX4_figure_6 : cX4_figure.data.toList.drop 141 = dktX4_figure_6 := dk_seg dksX4_figure_5 24 rfl rfl
theorem dksX4_figure_7 : cX4_figure.data.toList.drop 165 = dktX4_figure_7 := dk_seg dksX4_figure_6 24 rfl rfl
theorem dksX4_figure_8 : cX4_figure.data.toList.drop 189 = dktX4_figure_8 := dk_seg dksX4_figure_7 24 rfl rfl
theorem dksX4_figure_9 : cX4_figure.data.toList.drop 213 = dktX4_figure_9 := dk_seg dksX4_figure_8 24 rfl rfl
theorem dX4_figure_0 : decode cX4_figure 0 = .ok (.aload_n 0, 1) := dk_42 (dk_at dksX4_figure_0 0 rfl rfl)
theorem dX4_figure_1 : decode cX4_figure 1 = .ok (.getfield 137, 3) := dk_180 0 137 (dk_at dksX4_figure_0 1 rfl rfl)
theorem dX4_figure_4 : decode cX4_figure 4 = .ok (.ifCond .eq 4, 3) := dk_153 0 4 (dk_at dksX4_figure_0 4 rfl rfl)
theorem dX4_figure_7 : decode cX4_figure 7 = .ok (.return_, 1) := dk_177 (dk_at dksX4_figure_0 7 rfl rfl)
theorem dX4_figure_8 : decode cX4_figure 8 = .ok (.aload_n 0, 1) := dk_42 (dk_at dksX4_figure_0 8 rfl rfl)
theorem dX4_figure_9 : decode cX4_figure 9 = .ok (.invokevirtual 130, 3) := dk_182 0 130 (dk_at dksX4_figure_0 9 rfl rfl)
theorem dX4_figure_12 : decode cX4_figure 12 = .ok (.bipush 45, 2) := dk_16 45 (dk_at dksX4_figure_0 12 rfl rfl)
theorem dX4_figure_14 : decode cX4_figure 14 = .ok (.if_icmp .ne 7, 3) := dk_160 0 7 (dk_at dksX4_figure_0 14 rfl rfl)
theorem dX4_figure_17 : decode cX4_figure 17 = .ok (.iconst 1, 1) := dk_4 (dk_at dksX4_figure_0 17 rfl rfl)
theorem dX4_figure_18 : decode cX4_figure 18 = .ok (.goto 4, 3) := dk_167 0 4 (dk_at dksX4_figure_0 18 rfl rfl)
theorem dX4_figure_21 : decode cX4_figure 21 = .ok (.iconst 0, 1) := dk_3 (dk_at dksX4_figure_0 21 rfl rfl)
theorem dX4_figure_22 : decode cX4_figure 22 = .ok (.istore_n 1, 1) := dk_60 (dk_at dksX4_figure_0 22 rfl rfl)
theorem dX4_figure_23 : decode cX4_figure 23 = .ok (.aload_n 0, 1) := dk_42 (dk_at dksX4_figure_0 23 rfl rfl)
theorem dX4_figure_24 : decode cX4_figure 24 = .ok (.dup, 1) := dk_89 (dk_at dksX4_figure_1 0 rfl rfl)
theorem dX4_figure_25 : decode cX4_figure 25 = .ok (.getfield 127, 3) := dk_180 0 127 (dk_at dksX4_figure_1 1 rfl rfl)
theorem dX4_figure_28 : decode cX4_figure 28 = .ok (.iload_n 1, 1) := dk_27 (dk_at dksX4_figure_1 4 rfl rfl)
theorem dX4_figure_29 : decode cX4_figure 29 = .ok (.ifCond .eq 7, 3) := dk_153 0 7 (dk_at dksX4_figure_1 5 rfl rfl)
theorem dX4_figure_32 : decode cX4_figure 32 = .ok (.iconst 1, 1) := dk_4 (dk_at dksX4_figure_1 8 rfl rfl)
theorem dX4_figure_33 : decode cX4_figure 33 = .ok (.goto 4, 3) := dk_167 0 4 (dk_at dksX4_figure_1 9 rfl rfl)
theorem dX4_figure_36 : decode cX4_figure 36 = .ok (.iconst 0, 1) := dk_3 (dk_at dksX4_figure_1 12 rfl rfl)
theorem dX4_figure_37 : decode cX4_figure 37 = .ok (.iadd, 1) := dk_96 (dk_at dksX4_figure_1 13 rfl rfl)
theorem dX4_figure_38 : decode cX4_figure 38 = .ok (.putfield 127, 3) := dk_181 0 127 (dk_at dksX4_figure_1 14 rfl rfl)
theorem dX4_figure_41 : decode cX4_figure 41 = .ok (.aload_n 0, 1) := dk_42 (dk_at dksX4_figure_1 17 rfl rfl)
theorem dX4_figure_42 : decode cX4_figure 42 = .ok (.invokevirtual 149, 3) := dk_182 0 149 (dk_at dksX4_figure_1 18 rfl rfl)
theorem dX4_figure_45 : decode cX4_figure 45 = .ok (.ifCond .eq 16, 3) := dk_153 0 16 (dk_at dksX4_figure_1 21 rfl rfl)
theorem dX4_figure_48 : decode cX4_figure 48 = .ok (.iload_n 1, 1) := dk_27 (dk_at dksX4_figure_2 0 rfl rfl)
theorem dX4_figure_49 : decode cX4_figure 49 = .ok (.ifCond .eq 18, 3) := dk_153 0 18 (dk_at dksX4_figure_2 1 rfl rfl)
theorem dX4_figure_52 : decode cX4_figure 52 = .ok (.aload_n 0, 1) := dk_42 (dk_at dksX4_figure_2 4 rfl rfl)
theorem dX4_figure_53 : decode cX4_figure 53 = .ok (.invokevirtual 130, 3) := dk_182 0 130 (dk_at dksX4_figure_2 5 rfl rfl)
theorem dX4_figure_56 : decode cX4_figure 56 = .ok (.bipush 48, 2) := dk_16 48 (dk_at dksX4_figure_2 8 rfl rfl)
theorem dX4_figure_58 : decode cX4_figure 58 = .ok (.if_icmp .ne 9, 3) := dk_160 0 9 (dk_at dksX4_figure_2 10 rfl rfl)
theorem dX4_figure_61 : decode cX4_figure 61 = .ok (.aload_n 0, 1) := dk_42 (dk_at dksX4_figure_2 13 rfl rfl)
theorem dX4_figure_62 : decode cX4_figure 62 = .ok (.iconst 1, 1) := dk_4 (dk_at dksX4_figure_2 14 rfl rfl)
theorem dX4_figure_63 : decode cX4_figure 63 = .ok (.putfield 137, 3) := dk_181 0 137 (dk_at dksX4_figure_2 15 rfl rfl)
theorem dX4_figure_66 : decode cX4_figure 66 = .ok (.return_, 1) := dk_177 (dk_at dksX4_figure_2 18 rfl rfl)
theorem dX4_figure_67 : decode cX4_figure 67 = .ok (.aload_n 0, 1) := dk_42 (dk_at dksX4_figure_2 19 rfl rfl)
theorem dX4_figure_68 : decode cX4_figure 68 = .ok (.invokevirtual 130, 3) := dk_182 0 130 (dk_at dksX4_figure_2 20 rfl rfl)
theorem dX4_figure_71 : decode cX4_figure 71 = .ok (.bipush 48, 2) := dk_16 48 (dk_at dksX4_figure_3 0 rfl rfl)
theorem dX4_figure_73 : decode cX4_figure 73 = .ok (.if_icmp .ne 7, 3) := dk_160 0 7 (dk_at dksX4_figure_3 2 rfl rfl)
theorem dX4_figure_76 : decode cX4_figure 76 = .ok (.iconst 1, 1) := dk_4 (dk_at dksX4_figure_3 5 rfl rfl)
theorem dX4_figure_77 : decode cX4_figure 77 = .ok (.goto 4, 3) := dk_167 0 4 (dk_at dksX4_figure_3 6 rfl rfl)
theorem dX4_figure_80 : decode cX4_figure 80 = .ok (.iconst 0, 1) := dk_3 (dk_at dksX4_figure_3 9 rfl rfl)
theorem dX4_figure_81 : decode cX4_figure 81 = .ok (.istore_n 2, 1) := dk_61 (dk_at dksX4_figure_3 10 rfl rfl)
theorem dX4_figure_82 : decode cX4_figure 82 = .ok (.aload_n 0, 1) := dk_42 (dk_at dksX4_figure_3 11 rfl rfl)
theorem dX4_figure_83 : decode cX4_figure 83 = .ok (.invokevirtual 130, 3) := dk_182 0 130 (dk_at dksX4_figure_3 12 rfl rfl)
theorem dX4_figure_86 : decode cX4_figure 86 = .ok (.bipush 48, 2) := dk_16 48 (dk_at dksX4_figure_3 15 rfl rfl)
theorem dX4_figure_88 : decode cX4_figure 88 = .ok (.isub, 1) := dk_100 (dk_at dksX4_figure_3 17 rfl rfl)
theorem dX4_figure_89 : decode cX4_figure 89 = .ok (.ineg, 1) := dk_116 (dk_at dksX4_figure_3 18 rfl rfl)
theorem dX4_figure_90 : decode cX4_figure 90 = .ok (.i2l, 1) := dk_133 (dk_at dksX4_figure_3 19 rfl rfl)
theorem dX4_figure_91 : decode cX4_figure 91 = .ok (.lstore_n 3, 1) := dk_66 (dk_at dksX4_figure_3 20 rfl rfl)
theorem dX4_figure_92 : decode cX4_figure 92 = .ok (.aload_n 0, 1) := dk_42 (dk_at dksX4_figure_3 21 rfl rfl)
theorem dX4_figure_93 : decode cX4_figure 93 = .ok (.dup, 1) := dk_89 (dk_at dksX4_figure_3 22 rfl rfl)
theorem dX4_figure_94 : decode cX4_figure 94 = .ok (.getfield 127, 3) := dk_180 0 127 (dk_at dksX4_figure_4 0 rfl rfl)
theorem dX4_figure_97 : decode cX4_figure 97 = .ok (.iconst 1, 1) := dk_4 (dk_at dksX4_figure_4 3 rfl rfl)
theorem dX4_figure_98 : decode cX4_figure 98 = .ok (.iadd, 1) := dk_96 (dk_at dksX4_figure_4 4 rfl rfl)
theorem dX4_figure_99 : decode cX4_figure 99 = .ok (.putfield 127, 3) := dk_181 0 127 (dk_at dksX4_figure_4 5 rfl rfl)
theorem dX4_figure_102 : decode cX4_figure 102 = .ok (.aload_n 0, 1) := dk_42 (dk_at dksX4_figure_4 8 rfl rfl)
theorem dX4_figure_103 : decode cX4_figure 103 = .ok (.invokevirtual 149, 3) := dk_182 0 149 (dk_at dksX4_figure_4 9 rfl rfl)
theorem dX4_figure_106 : decode cX4_figure 106 = .ok (.ifCond .eq 96, 3) := dk_153 0 96 (dk_at dksX4_figure_4 12 rfl rfl)
theorem dX4_figure_109 : decode cX4_figure 109 = .ok (.iload_n 2, 1) := dk_28 (dk_at dksX4_figure_4 15 rfl rfl)
theorem dX4_figure_110 : decode cX4_figure 110 = .ok (.ifCond .ne 92, 3) := dk_154 0 92 (dk_at dksX4_figure_4 16 rfl rfl)
theorem dX4_figure_113 : decode cX4_figure 113 = .ok (.aload_n 0, 1) := dk_42 (dk_at dksX4_figure_4 19 rfl rfl)
theorem dX4_figure_114 : decode cX4_figure 114 = .ok (.getfield 137, 3) := dk_180 0 137 (dk_at dksX4_figure_4 20 rfl rfl)
theorem dX4_figure_117 : decode cX4_figure 117 = .ok (.ifCond .ne 85, 3) := dk_154 0 85 (dk_at dksX4_figure_5 0 rfl rfl)
theorem dX4_figure_120 : decode cX4_figure 120 = .ok (.aload_n 0, 1) := dk_42 (dk_at dksX4_figure_5 3 rfl rfl)
theorem dX4_figure_121 : decode cX4_figure 121 = .ok (.invokevirtual 130, 3) := dk_182 0 130 (dk_at dksX4_figure_5 4 rfl rfl)
theorem dX4_figure_124 : decode cX4_figure 124 = .ok (.bipush 48, 2) := dk_16 48 (dk_at dksX4_figure_5 7 rfl rfl)
theorem dX4_figure_126 : decode cX4_figure 126 = .ok (.isub, 1) := dk_100 (dk_at dksX4_figure_5 9 rfl rfl)
theorem dX4_figure_127 : decode cX4_figure 127 = .ok (.istore 5, 2) := dk_54 5 (dk_at dksX4_figure_5 10 rfl rfl)
theorem dX4_figure_129 : decode cX4_figure 129 = .ok (.lload_n 3, 1) := dk_33 (dk_at dksX4_figure_5 12 rfl rfl)
theorem dX4_figure_130 : decode cX4_figure 130 = .ok (.ldc2_w 152, 3) := dk_20 0 152 (dk_at dksX4_figure_5 13 rfl rfl)
theorem dX4_figure_133 : decode cX4_figure 133 = .ok (.lcmp, 1) := dk_148 (dk_at dksX4_figure_5 16 rfl rfl)
theorem dX4_figure_134 : decode cX4_figure 134 = .ok (.ifCond .lt 27, 3) := dk_155 0 27 (dk_at dksX4_figure_5 17 rfl rfl)
theorem dX4_figure_137 : decode cX4_figure 137 = .ok (.lload_n 3, 1) := dk_33 (dk_at dksX4_figure_5 20 rfl rfl)
theorem dX4_figure_138 : decode cX4_figure 138 = .ok (.ldc2_w 152, 3) := dk_20 0 152 (dk_at dksX4_figure_5 21 rfl rfl)
theorem dX4_figure_141 : decode cX4_figure 141 = .ok (.lcmp, 1) := dk_148 (dk_at dksX4_figure_6 0 rfl rfl)
theorem dX4_figure_142 : decode cX4_figure 142 = .ok (.ifCond .ne 23, 3) := dk_154 0 23 (dk_at dksX4_figure_6 1 rfl rfl)
theorem dX4_figure_145 : decode cX4_figure 145 = .ok (.iload 5, 2) := dk_21 5 (dk_at dksX4_figure_6 4 rfl rfl)
theorem dX4_figure_147 : decode cX4_figure 147 = .ok (.iload_n 1, 1) := dk_27 (dk_at dksX4_figure_6 6 rfl rfl)
theorem dX4_figure_148 : decode cX4_figure 148 = .ok (.ifCond .eq 8, 3) := dk_153 0 8 (dk_at dksX4_figure_6 7 rfl rfl)
theorem dX4_figure_151 : decode cX4_figure 151 = .ok (.bipush 8, 2) := dk_16 8 (dk_at dksX4_figure_6 10 rfl rfl)
theorem dX4_figure_153 : decode cX4_figure 153 = .ok (.goto 5, 3) := dk_167 0 5 (dk_at dksX4_figure_6 12 rfl rfl)
theorem dX4_figure_156 : decode cX4_figure 156 = .ok (.bipush 7, 2) := dk_16 7 (dk_at dksX4_figure_6 15 rfl rfl)
theorem dX4_figure_158 : decode cX4_figure 158 = .ok (.if_icmp .le 7, 3) := dk_164 0 7 (dk_at dksX4_figure_6 17 rfl rfl)
theorem dX4_figure_161 : decode cX4_figure 161 = .ok (.iconst 1, 1) := dk_4 (dk_at dksX4_figure_6 20 rfl rfl)
theorem dX4_figure_162 : decode cX4_figure 162 = .ok (.goto 4, 3) := dk_167 0 4 (dk_at dksX4_figure_6 21 rfl rfl)
theorem dX4_figure_165 : decode cX4_figure 165 = .ok (.iconst 0, 1) := dk_3 (dk_at dksX4_figure_7 0 rfl rfl)
theorem dX4_figure_166 : decode cX4_figure 166 = .ok (.istore 6, 2) := dk_54 6 (dk_at dksX4_figure_7 1 rfl rfl)
theorem dX4_figure_168 : decode cX4_figure 168 = .ok (.aload_n 0, 1) := dk_42 (dk_at dksX4_figure_7 3 rfl rfl)
theorem dX4_figure_169 : decode cX4_figure 169 = .ok (.iload 6, 2) := dk_21 6 (dk_at dksX4_figure_7 4 rfl rfl)
theorem dX4_figure_171 : decode cX4_figure 171 = .ok (.putfield 137, 3) := dk_181 0 137 (dk_at dksX4_figure_7 6 rfl rfl)
theorem dX4_figure_174 : decode cX4_figure 174 = .ok (.iload 6, 2) := dk_21 6 (dk_at dksX4_figure_7 9 rfl rfl)
theorem dX4_figure_176 : decode cX4_figure 176 = .ok (.ifCond .ne 23, 3) := dk_154 0 23 (dk_at dksX4_figure_7 11 rfl rfl)
theorem dX4_figure_179 : decode cX4_figure 179 = .ok (.ldc2_w 154, 3) := dk_20 0 154 (dk_at dksX4_figure_7 14 rfl rfl)
theorem dX4_figure_182 : decode cX4_figure 182 = .ok (.lload_n 3, 1) := dk_33 (dk_at dksX4_figure_7 17 rfl rfl)
theorem dX4_figure_183 : decode cX4_figure 183 = .ok (.lmul, 1) := dk_105 (dk_at dksX4_figure_7 18 rfl rfl)
theorem dX4_figure_184 : decode cX4_figure 184 = .ok (.iload 5, 2) := dk_21 5 (dk_at dksX4_figure_7 19 rfl rfl)
theorem dX4_figure_186 : decode cX4_figure 186 = .ok (.i2l, 1) := dk_133 (dk_at dksX4_figure_7 21 rfl rfl)
theorem dX4_figure_187 : decode cX4_figure 187 = .ok (.lsub, 1) := dk_101 (dk_at dksX4_figure_7 22 rfl rfl)
theorem dX4_figure_188 : decode cX4_figure 188 = .ok (.lstore_n 3, 1) := dk_66 (dk_at dksX4_figure_7 23 rfl rfl)
theorem dX4_figure_189 : decode cX4_figure 189 = .ok (.aload_n 0, 1) := dk_42 (dk_at dksX4_figure_8 0 rfl rfl)
theorem dX4_figure_190 : decode cX4_figure 190 = .ok (.dup, 1) := dk_89 (dk_at dksX4_figure_8 1 rfl rfl)
theorem dX4_figure_191 : decode cX4_figure 191 = .ok (.getfield 127, 3) := dk_180 0 127 (dk_at dksX4_figure_8 2 rfl rfl)
theorem dX4_figure_194 : decode cX4_figure 194 = .ok (.iconst 1, 1) := dk_4 (dk_at dksX4_figure_8 5 rfl rfl)
theorem dX4_figure_195 : decode cX4_figure 195 = .ok (.iadd, 1) := dk_96 (dk_at dksX4_figure_8 6 rfl rfl)
theorem dX4_figure_196 : decode cX4_figure 196 = .ok (.putfield 127, 3) := dk_181 0 127 (dk_at dksX4_figure_8 7 rfl rfl)
theorem dX4_figure_199 : decode cX4_figure 199 = .ok (.goto (-97), 3) := dk_167 255 159 (dk_at dksX4_figure_8 10 rfl rfl)
theorem dX4_figure_202 : decode cX4_figure 202 = .ok (.aload_n 0, 1) := dk_42 (dk_at dksX4_figure_8 13 rfl rfl)
theorem dX4_figure_203 : decode cX4_figure 203 = .ok (.iload_n 1, 1) := dk_27 (dk_at dksX4_figure_8 14 rfl rfl)
theorem dX4_figure_204 : decode cX4_figure 204 = .ok (.ifCond .eq 7, 3) := dk_153 0 7 (dk_at dksX4_figure_8 15 rfl rfl)
theorem dX4_figure_207 : decode cX4_figure 207 = .ok (.lload_n 3, 1) := dk_33 (dk_at dksX4_figure_8 18 rfl rfl)
theorem dX4_figure_208 : decode cX4_figure 208 = .ok (.goto 5, 3) := dk_167 0 5 (dk_at dksX4_figure_8 19 rfl rfl)
theorem dX4_figure_211 : decode cX4_figure 211 = .ok (.lload_n 3, 1) := dk_33 (dk_at dksX4_figure_8 22 rfl rfl)
theorem dX4_figure_212 : decode cX4_figure 212 = .ok (.lneg, 1) := dk_117 (dk_at dksX4_figure_8 23 rfl rfl)
theorem dX4_figure_213 : decode cX4_figure 213 = .ok (.putfield 156, 3) := dk_181 0 156 (dk_at dksX4_figure_9 0 rfl rfl)
theorem dX4_figure_216 : decode cX4_figure 216 = .ok (.return_, 1) := dk_177 (dk_at dksX4_figure_9 3 rfl rfl)
abbrev cX4_isFigure : ByteArray := prog_9_method_26_code
def yX4_isFigure : MethodName := ⟨RX4, "isFigure", "()Z"⟩
def dkwX4_isFigure_0 : List UInt8 := [42, 182, 0, 130, 133, 20, 0, 133, 20, 0, 135, 184, 0, 48, 172]
abbrev dktX4_isFigure_0 : List UInt8 := dkwX4_isFigure_0 ++ []
theorem dksX4_isFigure_0 : cX4_isFigure.data.toList.drop 0 = dktX4_isFigure_0 := by decide +kernel
theorem dX4_isFigure_0 : decode cX4_isFigure 0 = .ok (.aload_n 0, 1) := dk_42 (dk_at dksX4_isFigure_0 0 rfl rfl)
theorem dX4_isFigure_1 : decode cX4_isFigure 1 = .ok (.invokevirtual 130, 3) := dk_182 0 130 (dk_at dksX4_isFigure_0 1 rfl rfl)
theorem dX4_isFigure_4 : decode cX4_isFigure 4 = .ok (.i2l, 1) := dk_133 (dk_at dksX4_isFigure_0 4 rfl rfl)
theorem dX4_isFigure_5 : decode cX4_isFigure 5 = .ok (.ldc2_w 133, 3) := dk_20 0 133 (dk_at dksX4_isFigure_0 5 rfl rfl)
theorem dX4_isFigure_8 : decode cX4_isFigure 8 = .ok (.ldc2_w 135, 3) := dk_20 0 135 (dk_at dksX4_isFigure_0 8 rfl rfl)
theorem dX4_isFigure_11 : decode cX4_isFigure 11 = .ok (.invokestatic 48, 3) := dk_184 0 48 (dk_at dksX4_isFigure_0 11 rfl rfl)
theorem dX4_isFigure_14 : decode cX4_isFigure 14 = .ok (.ireturn, 1) := dk_172 (dk_at dksX4_isFigure_0 14 rfl rfl)
abbrev cX4_level : ByteArray := prog_9_method_31_code
def yX4_level : MethodName := ⟨RX4, "level", "(I)V"⟩
def dkwX4_level_1 : List UInt8 := [80, 177]
abbrev dktX4_level_1 : List UInt8 := dkwX4_level_1 ++ []
def dkwX4_level_0 : List UInt8 := [42, 180, 0, 137, 154, 0, 21, 42, 180, 0, 19, 16, 12, 42, 180, 0, 45, 104, 27, 96, 42, 180, 0, 156]
abbrev dktX4_level_0 : List UInt8 := dkwX4_level_0 ++ dktX4_level_1
theorem dksX4_level_0 : cX4_level.data.toList.drop 0 = dktX4_level_0 := by decide +kernel
theorem dksX4_level_1 : cX4_level.data.toList.drop 24 = dktX4_level_1 := dk_seg dksX4_level_0 24 rfl rfl
theorem dX4_level_0 : decode cX4_level 0 = .ok (.aload_n 0, 1) := dk_42 (dk_at dksX4_level_0 0 rfl rfl)
theorem dX4_level_1 : decode cX4_level 1 = .ok (.getfield 137, 3) := dk_180 0 137 (dk_at dksX4_level_0 1 rfl rfl)
theorem dX4_level_4 : decode cX4_level 4 = .ok (.ifCond .ne 21, 3) := dk_154 0 21 (dk_at dksX4_level_0 4 rfl rfl)
theorem dX4_level_7 : decode cX4_level 7 = .ok (.aload_n 0, 1) := dk_42 (dk_at dksX4_level_0 7 rfl rfl)
theorem dX4_level_8 : decode cX4_level 8 = .ok (.getfield 19, 3) := dk_180 0 19 (dk_at dksX4_level_0 8 rfl rfl)
theorem dX4_level_11 : decode cX4_level 11 = .ok (.bipush 12, 2) := dk_16 12 (dk_at dksX4_level_0 11 rfl rfl)
theorem dX4_level_13 : decode cX4_level 13 = .ok (.aload_n 0, 1) := dk_42 (dk_at dksX4_level_0 13 rfl rfl)
theorem dX4_level_14 : decode cX4_level 14 = .ok (.getfield 45, 3) := dk_180 0 45 (dk_at dksX4_level_0 14 rfl rfl)
theorem dX4_level_17 : decode cX4_level 17 = .ok (.imul, 1) := dk_104 (dk_at dksX4_level_0 17 rfl rfl)
theorem dX4_level_18 : decode cX4_level 18 = .ok (.iload_n 1, 1) := dk_27 (dk_at dksX4_level_0 18 rfl rfl)
theorem dX4_level_19 : decode cX4_level 19 = .ok (.iadd, 1) := dk_96 (dk_at dksX4_level_0 19 rfl rfl)
theorem dX4_level_20 : decode cX4_level 20 = .ok (.aload_n 0, 1) := dk_42 (dk_at dksX4_level_0 20 rfl rfl)
theorem dX4_level_21 : decode cX4_level 21 = .ok (.getfield 156, 3) := dk_180 0 156 (dk_at dksX4_level_0 21 rfl rfl)
theorem dX4_level_24 : decode cX4_level 24 = .ok (.lastore, 1) := dk_80 (dk_at dksX4_level_1 0 rfl rfl)
theorem dX4_level_25 : decode cX4_level 25 = .ok (.return_, 1) := dk_177 (dk_at dksX4_level_1 1 rfl rfl)
abbrev cX4_word : ByteArray := prog_9_method_28_code
def yX4_word : MethodName := ⟨RX4, "word", "(I)V"⟩
def dkwX4_word_7 : List UInt8 := [123, 20, 0, 122, 127, 136, 182, 0, 145, 132, 5, 1, 167, 255, 231, 177]
abbrev dktX4_word_7 : List UInt8 := dkwX4_word_7 ++ []
def dkwX4_word_6 : List UInt8 := [16, 116, 6, 184, 0, 141, 129, 66, 3, 54, 5, 21, 5, 28, 162, 0, 25, 42, 33, 16, 7, 21, 5, 104]
abbrev dktX4_word_6 : List UInt8 := dkwX4_word_6 ++ dktX4_word_7
def dkwX4_word_5 : List UInt8 := [167, 0, 30, 16, 115, 3, 184, 0, 141, 16, 111, 4, 184, 0, 141, 129, 16, 102, 5, 184, 0, 141, 129]
abbrev dktX4_word_5 : List UInt8 := dkwX4_word_5 ++ dktX4_word_6
def dkwX4_word_4 : List UInt8 := [16, 117, 7, 184, 0, 141, 129, 16, 109, 8, 184, 0, 141, 129, 16, 47, 16, 6, 184, 0, 141, 129]
abbrev dktX4_word_4 : List UInt8 := dkwX4_word_4 ++ dktX4_word_5
def dkwX4_word_3 : List UInt8 := [184, 0, 141, 16, 101, 4, 184, 0, 141, 129, 16, 100, 5, 184, 0, 141, 129, 16, 105, 6, 184, 0, 141, 129]
abbrev dktX4_word_3 : List UInt8 := dkwX4_word_3 ++ dktX4_word_4
def dkwX4_word_2 : List UInt8 := [184, 0, 141, 129, 16, 47, 7, 184, 0, 141, 129, 167, 0, 87, 27, 4, 160, 0, 55, 16, 109, 3]
abbrev dktX4_word_2 : List UInt8 := dkwX4_word_2 ++ dktX4_word_3
def dkwX4_word_1 : List UInt8 := [16, 104, 3, 184, 0, 141, 16, 97, 4, 184, 0, 141, 129, 16, 114, 5, 184, 0, 141, 129, 16, 100, 6]
abbrev dktX4_word_1 : List UInt8 := dkwX4_word_1 ++ dktX4_word_2
def dkwX4_word_0 : List UInt8 := [27, 154, 0, 7, 8, 167, 0, 14, 27, 4, 160, 0, 8, 16, 7, 167, 0, 4, 7, 61, 27, 154, 0, 40]
abbrev dktX4_word_0 : List UInt8 := dkwX4_word_0 ++ dktX4_word_1
theorem dksX4_word_0 : cX4_word.data.toList.drop 0 = dktX4_word_0 := by decide +kernel
theorem dksX4_word_1 : cX4_word.data.toList.drop 24 = dktX4_word_1 := dk_seg dksX4_word_0 24 rfl rfl
theorem dksX4_word_2 : cX4_word.data.toList.drop 47 = dktX4_word_2 := dk_seg dksX4_word_1 23 rfl rfl
theorem dksX4_word_3 : cX4_word.data.toList.drop 69 = dktX4_word_3 := dk_seg dksX4_word_2 22 rfl rfl
theorem dksX4_word_4 : cX4_word.data.toList.drop 93 = dktX4_word_4 := dk_seg dksX4_word_3 24 rfl rfl
theorem dksX4_word_5 : cX4_word.data.toList.drop 115 = dktX4_word_5 := dk_seg dksX4_word_4 22 rfl rfl
theorem dksX4_word_6 : cX4_word.data.toList.drop 138 = dktX4_word_6 := dk_seg dksX4_word_5 23 rfl rfl
theorem dksX4_word_7 : cX4_word.data.toList.drop 162 = dktX4_word_7 := dk_seg dksX4_word_6 24 rfl rfl
theorem dX4_word_0 : decode cX4_word 0 = .ok (.iload_n 1, 1) := dk_27 (dk_at dksX4_word_0 0 rfl rfl)
theorem dX4_word_1 : decode cX4_word 1 = .ok (.ifCond .ne 7, 3) := dk_154 0 7 (dk_at dksX4_word_0 1 rfl rfl)
theorem dX4_word_4 : decode cX4_word 4 = .ok (.iconst 5, 1) := dk_8 (dk_at dksX4_word_0 4 rfl rfl)
theorem dX4_word_5 : decode cX4_word 5 = .ok (.goto 14, 3) := dk_167 0 14 (dk_at dksX4_word_0 5 rfl rfl)
theorem dX4_word_8 : decode cX4_word 8 = .ok (.iload_n 1, 1) := dk_27 (dk_at dksX4_word_0 8 rfl rfl)
theorem dX4_word_9 : decode cX4_word 9 = .ok (.iconst 1, 1) := dk_4 (dk_at dksX4_word_0 9 rfl rfl)
theorem dX4_word_10 : decode cX4_word 10 = .ok (.if_icmp .ne 8, 3) := dk_160 0 8 (dk_at dksX4_word_0 10 rfl rfl)
theorem dX4_word_13 : decode cX4_word 13 = .ok (.bipush 7, 2) := dk_16 7 (dk_at dksX4_word_0 13 rfl rfl)
theorem dX4_word_15 : decode cX4_word 15 = .ok (.goto 4, 3) := dk_167 0 4 (dk_at dksX4_word_0 15 rfl rfl)
theorem dX4_word_18 : decode cX4_word 18 = .ok (.iconst 4, 1) := dk_7 (dk_at dksX4_word_0 18 rfl rfl)
theorem dX4_word_19 : decode cX4_word 19 = .ok (.istore_n 2, 1) := dk_61 (dk_at dksX4_word_0 19 rfl rfl)
theorem dX4_word_20 : decode cX4_word 20 = .ok (.iload_n 1, 1) := dk_27 (dk_at dksX4_word_0 20 rfl rfl)
theorem dX4_word_21 : decode cX4_word 21 = .ok (.ifCond .ne 40, 3) := dk_154 0 40 (dk_at dksX4_word_0 21 rfl rfl)
theorem dX4_word_24 : decode cX4_word 24 = .ok (.bipush 104, 2) := dk_16 104 (dk_at dksX4_word_1 0 rfl rfl)
theorem dX4_word_26 : decode cX4_word 26 = .ok (.iconst 0, 1) := dk_3 (dk_at dksX4_word_1 2 rfl rfl)
theorem dX4_word_27 : decode cX4_word 27 = .ok (.invokestatic 141, 3) := dk_184 0 141 (dk_at dksX4_word_1 3 rfl rfl)
theorem dX4_word_30 : decode cX4_word 30 = .ok (.bipush 97, 2) := dk_16 97 (dk_at dksX4_word_1 6 rfl rfl)
theorem dX4_word_32 : decode cX4_word 32 = .ok (.iconst 1, 1) := dk_4 (dk_at dksX4_word_1 8 rfl rfl)
theorem dX4_word_33 : decode cX4_word 33 = .ok (.invokestatic 141, 3) := dk_184 0 141 (dk_at dksX4_word_1 9 rfl rfl)
theorem dX4_word_36 : decode cX4_word 36 = .ok (.lor, 1) := dk_129 (dk_at dksX4_word_1 12 rfl rfl)
theorem dX4_word_37 : decode cX4_word 37 = .ok (.bipush 114, 2) := dk_16 114 (dk_at dksX4_word_1 13 rfl rfl)
theorem dX4_word_39 : decode cX4_word 39 = .ok (.iconst 2, 1) := dk_5 (dk_at dksX4_word_1 15 rfl rfl)
theorem dX4_word_40 : decode cX4_word 40 = .ok (.invokestatic 141, 3) := dk_184 0 141 (dk_at dksX4_word_1 16 rfl rfl)
theorem dX4_word_43 : decode cX4_word 43 = .ok (.lor, 1) := dk_129 (dk_at dksX4_word_1 19 rfl rfl)
theorem dX4_word_44 : decode cX4_word 44 = .ok (.bipush 100, 2) := dk_16 100 (dk_at dksX4_word_1 20 rfl rfl)
theorem dX4_word_46 : decode cX4_word 46 = .ok (.iconst 3, 1) := dk_6 (dk_at dksX4_word_1 22 rfl rfl)
theorem dX4_word_47 : decode cX4_word 47 = .ok (.invokestatic 141, 3) := dk_184 0 141 (dk_at dksX4_word_2 0 rfl rfl)
theorem dX4_word_50 : decode cX4_word 50 = .ok (.lor, 1) := dk_129 (dk_at dksX4_word_2 3 rfl rfl)
theorem dX4_word_51 : decode cX4_word 51 = .ok (.bipush 47, 2) := dk_16 47 (dk_at dksX4_word_2 4 rfl rfl)
theorem dX4_word_53 : decode cX4_word 53 = .ok (.iconst 4, 1) := dk_7 (dk_at dksX4_word_2 6 rfl rfl)
theorem dX4_word_54 : decode cX4_word 54 = .ok (.invokestatic 141, 3) := dk_184 0 141 (dk_at dksX4_word_2 7 rfl rfl)
theorem dX4_word_57 : decode cX4_word 57 = .ok (.lor, 1) := dk_129 (dk_at dksX4_word_2 10 rfl rfl)
theorem dX4_word_58 : decode cX4_word 58 = .ok (.goto 87, 3) := dk_167 0 87 (dk_at dksX4_word_2 11 rfl rfl)
theorem dX4_word_61 : decode cX4_word 61 = .ok (.iload_n 1, 1) := dk_27 (dk_at dksX4_word_2 14 rfl rfl)
theorem dX4_word_62 : decode cX4_word 62 = .ok (.iconst 1, 1) := dk_4 (dk_at dksX4_word_2 15 rfl rfl)
theorem dX4_word_63 : decode cX4_word 63 = .ok (.if_icmp .ne 55, 3) := dk_160 0 55 (dk_at dksX4_word_2 16 rfl rfl)
theorem dX4_word_66 : decode cX4_word 66 = .ok (.bipush 109, 2) := dk_16 109 (dk_at dksX4_word_2 19 rfl rfl)
theorem dX4_word_68 : decode cX4_word 68 = .ok (.iconst 0, 1) := dk_3 (dk_at dksX4_word_2 21 rfl rfl)
theorem dX4_word_69 : decode cX4_word 69 = .ok (.invokestatic 141, 3) := dk_184 0 141 (dk_at dksX4_word_3 0 rfl rfl)
theorem dX4_word_72 : decode cX4_word 72 = .ok (.bipush 101, 2) := dk_16 101 (dk_at dksX4_word_3 3 rfl rfl)
theorem dX4_word_74 : decode cX4_word 74 = .ok (.iconst 1, 1) := dk_4 (dk_at dksX4_word_3 5 rfl rfl)
theorem dX4_word_75 : decode cX4_word 75 = .ok (.invokestatic 141, 3) := dk_184 0 141 (dk_at dksX4_word_3 6 rfl rfl)
theorem dX4_word_78 : decode cX4_word 78 = .ok (.lor, 1) := dk_129 (dk_at dksX4_word_3 9 rfl rfl)
theorem dX4_word_79 : decode cX4_word 79 = .ok (.bipush 100, 2) := dk_16 100 (dk_at dksX4_word_3 10 rfl rfl)
theorem dX4_word_81 : decode cX4_word 81 = .ok (.iconst 2, 1) := dk_5 (dk_at dksX4_word_3 12 rfl rfl)
theorem dX4_word_82 : decode cX4_word 82 = .ok (.invokestatic 141, 3) := dk_184 0 141 (dk_at dksX4_word_3 13 rfl rfl)
theorem dX4_word_85 : decode cX4_word 85 = .ok (.lor, 1) := dk_129 (dk_at dksX4_word_3 16 rfl rfl)
theorem dX4_word_86 : decode cX4_word 86 = .ok (.bipush 105, 2) := dk_16 105 (dk_at dksX4_word_3 17 rfl rfl)
theorem dX4_word_88 : decode cX4_word 88 = .ok (.iconst 3, 1) := dk_6 (dk_at dksX4_word_3 19 rfl rfl)
theorem dX4_word_89 : decode cX4_word 89 = .ok (.invokestatic 141, 3) := dk_184 0 141 (dk_at dksX4_word_3 20 rfl rfl)
theorem dX4_word_92 : decode cX4_word 92 = .ok (.lor, 1) := dk_129 (dk_at dksX4_word_3 23 rfl rfl)
theorem dX4_word_93 : decode cX4_word 93 = .ok (.bipush 117, 2) := dk_16 117 (dk_at dksX4_word_4 0 rfl rfl)
theorem dX4_word_95 : decode cX4_word 95 = .ok (.iconst 4, 1) := dk_7 (dk_at dksX4_word_4 2 rfl rfl)
theorem dX4_word_96 : decode cX4_word 96 = .ok (.invokestatic 141, 3) := dk_184 0 141 (dk_at dksX4_word_4 3 rfl rfl)
theorem dX4_word_99 : decode cX4_word 99 = .ok (.lor, 1) := dk_129 (dk_at dksX4_word_4 6 rfl rfl)
theorem dX4_word_100 : decode cX4_word 100 = .ok (.bipush 109, 2) := dk_16 109 (dk_at dksX4_word_4 7 rfl rfl)
theorem dX4_word_102 : decode cX4_word 102 = .ok (.iconst 5, 1) := dk_8 (dk_at dksX4_word_4 9 rfl rfl)
theorem dX4_word_103 : decode cX4_word 103 = .ok (.invokestatic 141, 3) := dk_184 0 141 (dk_at dksX4_word_4 10 rfl rfl)
theorem dX4_word_106 : decode cX4_word 106 = .ok (.lor, 1) := dk_129 (dk_at dksX4_word_4 13 rfl rfl)
theorem dX4_word_107 : decode cX4_word 107 = .ok (.bipush 47, 2) := dk_16 47 (dk_at dksX4_word_4 14 rfl rfl)
theorem dX4_word_109 : decode cX4_word 109 = .ok (.bipush 6, 2) := dk_16 6 (dk_at dksX4_word_4 16 rfl rfl)
theorem dX4_word_111 : decode cX4_word 111 = .ok (.invokestatic 141, 3) := dk_184 0 141 (dk_at dksX4_word_4 18 rfl rfl)
theorem dX4_word_114 : decode cX4_word 114 = .ok (.lor, 1) := dk_129 (dk_at dksX4_word_4 21 rfl rfl)
theorem dX4_word_115 : decode cX4_word 115 = .ok (.goto 30, 3) := dk_167 0 30 (dk_at dksX4_word_5 0 rfl rfl)
theorem dX4_word_118 : decode cX4_word 118 = .ok (.bipush 115, 2) := dk_16 115 (dk_at dksX4_word_5 3 rfl rfl)
theorem dX4_word_120 : decode cX4_word 120 = .ok (.iconst 0, 1) := dk_3 (dk_at dksX4_word_5 5 rfl rfl)
theorem dX4_word_121 : decode cX4_word 121 = .ok (.invokestatic 141, 3) := dk_184 0 141 (dk_at dksX4_word_5 6 rfl rfl)
theorem dX4_word_124 : decode cX4_word 124 = .ok (.bipush 111, 2) := dk_16 111 (dk_at dksX4_word_5 9 rfl rfl)
theorem dX4_word_126 : decode cX4_word 126 = .ok (.iconst 1, 1) := dk_4 (dk_at dksX4_word_5 11 rfl rfl)
theorem dX4_word_127 : decode cX4_word 127 = .ok (.invokestatic 141, 3) := dk_184 0 141 (dk_at dksX4_word_5 12 rfl rfl)
theorem dX4_word_130 : decode cX4_word 130 = .ok (.lor, 1) := dk_129 (dk_at dksX4_word_5 15 rfl rfl)
theorem dX4_word_131 : decode cX4_word 131 = .ok (.bipush 102, 2) := dk_16 102 (dk_at dksX4_word_5 16 rfl rfl)
theorem dX4_word_133 : decode cX4_word 133 = .ok (.iconst 2, 1) := dk_5 (dk_at dksX4_word_5 18 rfl rfl)
theorem dX4_word_134 : decode cX4_word 134 = .ok (.invokestatic 141, 3) := dk_184 0 141 (dk_at dksX4_word_5 19 rfl rfl)
theorem dX4_word_137 : decode cX4_word 137 = .ok (.lor, 1) := dk_129 (dk_at dksX4_word_5 22 rfl rfl)
theorem dX4_word_138 : decode cX4_word 138 = .ok (.bipush 116, 2) := dk_16 116 (dk_at dksX4_word_6 0 rfl rfl)
theorem dX4_word_140 : decode cX4_word 140 = .ok (.iconst 3, 1) := dk_6 (dk_at dksX4_word_6 2 rfl rfl)
theorem dX4_word_141 : decode cX4_word 141 = .ok (.invokestatic 141, 3) := dk_184 0 141 (dk_at dksX4_word_6 3 rfl rfl)
theorem dX4_word_144 : decode cX4_word 144 = .ok (.lor, 1) := dk_129 (dk_at dksX4_word_6 6 rfl rfl)
theorem dX4_word_145 : decode cX4_word 145 = .ok (.lstore_n 3, 1) := dk_66 (dk_at dksX4_word_6 7 rfl rfl)
theorem dX4_word_146 : decode cX4_word 146 = .ok (.iconst 0, 1) := dk_3 (dk_at dksX4_word_6 8 rfl rfl)
theorem dX4_word_147 : decode cX4_word 147 = .ok (.istore 5, 2) := dk_54 5 (dk_at dksX4_word_6 9 rfl rfl)
theorem dX4_word_149 : decode cX4_word 149 = .ok (.iload 5, 2) := dk_21 5 (dk_at dksX4_word_6 11 rfl rfl)
theorem dX4_word_151 : decode cX4_word 151 = .ok (.iload_n 2, 1) := dk_28 (dk_at dksX4_word_6 13 rfl rfl)
theorem dX4_word_152 : decode cX4_word 152 = .ok (.if_icmp .ge 25, 3) := dk_162 0 25 (dk_at dksX4_word_6 14 rfl rfl)
theorem dX4_word_155 : decode cX4_word 155 = .ok (.aload_n 0, 1) := dk_42 (dk_at dksX4_word_6 17 rfl rfl)
theorem dX4_word_156 : decode cX4_word 156 = .ok (.lload_n 3, 1) := dk_33 (dk_at dksX4_word_6 18 rfl rfl)
theorem dX4_word_157 : decode cX4_word 157 = .ok (.bipush 7, 2) := dk_16 7 (dk_at dksX4_word_6 19 rfl rfl)
theorem dX4_word_159 : decode cX4_word 159 = .ok (.iload 5, 2) := dk_21 5 (dk_at dksX4_word_6 21 rfl rfl)
theorem dX4_word_161 : decode cX4_word 161 = .ok (.imul, 1) := dk_104 (dk_at dksX4_word_6 23 rfl rfl)
theorem dX4_word_162 : decode cX4_word 162 = .ok (.lshr, 1) := dk_123 (dk_at dksX4_word_7 0 rfl rfl)
theorem dX4_word_163 : decode cX4_word 163 = .ok (.ldc2_w 122, 3) := dk_20 0 122 (dk_at dksX4_word_7 1 rfl rfl)
theorem dX4_word_166 : decode cX4_word 166 = .ok (.land, 1) := dk_127 (dk_at dksX4_word_7 4 rfl rfl)
theorem dX4_word_167 : decode cX4_word 167 = .ok (.l2i, 1) := dk_136 (dk_at dksX4_word_7 5 rfl rfl)
theorem dX4_word_168 : decode cX4_word 168 = .ok (.invokevirtual 145, 3) := dk_182 0 145 (dk_at dksX4_word_7 6 rfl rfl)
theorem dX4_word_171 : decode cX4_word 171 = .ok (.iinc 5 1, 3) := dk_132 5 1 (dk_at dksX4_word_7 9 rfl rfl)
theorem dX4_word_174 : decode cX4_word 174 = .ok (.goto (-25), 3) := dk_167 255 231 (dk_at dksX4_word_7 12 rfl rfl)
theorem dX4_word_177 : decode cX4_word 177 = .ok (.return_, 1) := dk_177 (dk_at dksX4_word_7 15 rfl rfl)
abbrev cX4_letter : ByteArray := prog_9_method_29_code
def yX4_letter : MethodName := ⟨RX4, "letter", "(II)J"⟩
def dkwX4_letter_0 : List UInt8 := [26, 133, 16, 7, 27, 104, 121, 173]
abbrev dktX4_letter_0 : List UInt8 := dkwX4_letter_0 ++ []
theorem dksX4_letter_0 : cX4_letter.data.toList.drop 0 = dktX4_letter_0 := by decide +kernel
theorem dX4_letter_0 : decode cX4_letter 0 = .ok (.iload_n 0, 1) := dk_26 (dk_at dksX4_letter_0 0 rfl rfl)
theorem dX4_letter_1 : decode cX4_letter 1 = .ok (.i2l, 1) := dk_133 (dk_at dksX4_letter_0 1 rfl rfl)
theorem dX4_letter_2 : decode cX4_letter 2 = .ok (.bipush 7, 2) := dk_16 7 (dk_at dksX4_letter_0 2 rfl rfl)
theorem dX4_letter_4 : decode cX4_letter 4 = .ok (.iload_n 1, 1) := dk_27 (dk_at dksX4_letter_0 4 rfl rfl)
theorem dX4_letter_5 : decode cX4_letter 5 = .ok (.imul, 1) := dk_104 (dk_at dksX4_letter_0 5 rfl rfl)
theorem dX4_letter_6 : decode cX4_letter 6 = .ok (.lshl, 1) := dk_121 (dk_at dksX4_letter_0 6 rfl rfl)
theorem dX4_letter_7 : decode cX4_letter 7 = .ok (.lreturn, 1) := dk_173 (dk_at dksX4_letter_0 7 rfl rfl)
abbrev cX4_plain : ByteArray := prog_9_method_34_code
def yX4_plain : MethodName := ⟨RX4, "plain", "()V"⟩
def dkwX4_plain_5 : List UInt8 := [180, 0, 45, 27, 4, 96, 79, 177]
abbrev dktX4_plain_5 : List UInt8 := dkwX4_plain_5 ++ []
def dkwX4_plain_4 : List UInt8 := [180, 0, 13, 42, 180, 0, 45, 27, 154, 0, 7, 3, 167, 0, 4, 4, 79, 42, 180, 0, 16, 42]
abbrev dktX4_plain_4 : List UInt8 := dkwX4_plain_4 ++ dktX4_plain_5
def dkwX4_plain_3 : List UInt8 := [42, 5, 182, 0, 162, 5, 60, 42, 5, 182, 0, 169, 42, 180, 0, 7, 42, 180, 0, 45, 27, 79, 42]
abbrev dktX4_plain_3 : List UInt8 := dkwX4_plain_3 ++ dktX4_plain_4
def dkwX4_plain_2 : List UInt8 := [180, 0, 137, 154, 0, 28, 42, 182, 0, 130, 16, 109, 160, 0, 19, 42, 4, 182, 0, 169, 42, 182, 0, 159]
abbrev dktX4_plain_2 : List UInt8 := dkwX4_plain_2 ++ dktX4_plain_3
def dkwX4_plain_1 : List UInt8 := [180, 0, 124, 162, 0, 56, 42, 3, 182, 0, 169, 42, 182, 0, 159, 42, 4, 182, 0, 162, 4, 60, 42]
abbrev dktX4_plain_1 : List UInt8 := dkwX4_plain_1 ++ dktX4_plain_2
def dkwX4_plain_0 : List UInt8 := [42, 182, 0, 159, 42, 3, 182, 0, 162, 3, 60, 42, 180, 0, 137, 154, 0, 67, 42, 180, 0, 127, 42]
abbrev dktX4_plain_0 : List UInt8 := dkwX4_plain_0 ++ dktX4_plain_1
theorem dksX4_plain_0 : cX4_plain.data.toList.drop 0 = dktX4_plain_0 := by decide +kernel
theorem dksX4_plain_1 : cX4_plain.data.toList.drop 23 = dktX4_plain_1 := dk_seg dksX4_plain_0 23 rfl rfl
theorem dksX4_plain_2 : cX4_plain.data.toList.drop 46 = dktX4_plain_2 := dk_seg dksX4_plain_1 23 rfl rfl
theorem dksX4_plain_3 : cX4_plain.data.toList.drop 70 = dktX4_plain_3 := dk_seg dksX4_plain_2 24 rfl rfl
theorem dksX4_plain_4 : cX4_plain.data.toList.drop 93 = dktX4_plain_4 := dk_seg dksX4_plain_3 23 rfl rfl
theorem dksX4_plain_5 : cX4_plain.data.toList.drop 115 = dktX4_plain_5 := dk_seg dksX4_plain_4 22 rfl rfl
theorem dX4_plain_0 : decode cX4_plain 0 = .ok (.aload_n 0, 1) := dk_42 (dk_at dksX4_plain_0 0 rfl rfl)
theorem dX4_plain_1 : decode cX4_plain 1 = .ok (.invokevirtual 159, 3) := dk_182 0 159 (dk_at dksX4_plain_0 1 rfl rfl)
theorem dX4_plain_4 : decode cX4_plain 4 = .ok (.aload_n 0, 1) := dk_42 (dk_at dksX4_plain_0 4 rfl rfl)
theorem dX4_plain_5 : decode cX4_plain 5 = .ok (.iconst 0, 1) := dk_3 (dk_at dksX4_plain_0 5 rfl rfl)
theorem dX4_plain_6 : decode cX4_plain 6 = .ok (.invokevirtual 162, 3) := dk_182 0 162 (dk_at dksX4_plain_0 6 rfl rfl)
theorem dX4_plain_9 : decode cX4_plain 9 = .ok (.iconst 0, 1) := dk_3 (dk_at dksX4_plain_0 9 rfl rfl)
theorem dX4_plain_10 : decode cX4_plain 10 = .ok (.istore_n 1, 1) := dk_60 (dk_at dksX4_plain_0 10 rfl rfl)
theorem dX4_plain_11 : decode cX4_plain 11 = .ok (.aload_n 0, 1) := dk_42 (dk_at dksX4_plain_0 11 rfl rfl)
theorem dX4_plain_12 : decode cX4_plain 12 = .ok (.getfield 137, 3) := dk_180 0 137 (dk_at dksX4_plain_0 12 rfl rfl)
theorem dX4_plain_15 : decode cX4_plain 15 = .ok (.ifCond .ne 67, 3) := dk_154 0 67 (dk_at dksX4_plain_0 15 rfl rfl)
theorem dX4_plain_18 : decode cX4_plain 18 = .ok (.aload_n 0, 1) := dk_42 (dk_at dksX4_plain_0 18 rfl rfl)
theorem dX4_plain_19 : decode cX4_plain 19 = .ok (.getfield 127, 3) := dk_180 0 127 (dk_at dksX4_plain_0 19 rfl rfl)
theorem dX4_plain_22 : decode cX4_plain 22 = .ok (.aload_n 0, 1) := dk_42 (dk_at dksX4_plain_0 22 rfl rfl)
theorem dX4_plain_23 : decode cX4_plain 23 = .ok (.getfield 124, 3) := dk_180 0 124 (dk_at dksX4_plain_1 0 rfl rfl)
theorem dX4_plain_26 : decode cX4_plain 26 = .ok (.if_icmp .ge 56, 3) := dk_162 0 56 (dk_at dksX4_plain_1 3 rfl rfl)
theorem dX4_plain_29 : decode cX4_plain 29 = .ok (.aload_n 0, 1) := dk_42 (dk_at dksX4_plain_1 6 rfl rfl)
theorem dX4_plain_30 : decode cX4_plain 30 = .ok (.iconst 0, 1) := dk_3 (dk_at dksX4_plain_1 7 rfl rfl)
theorem dX4_plain_31 : decode cX4_plain 31 = .ok (.invokevirtual 169, 3) := dk_182 0 169 (dk_at dksX4_plain_1 8 rfl rfl)
theorem dX4_plain_34 : decode cX4_plain 34 = .ok (.aload_n 0, 1) := dk_42 (dk_at dksX4_plain_1 11 rfl rfl)
theorem dX4_plain_35 : decode cX4_plain 35 = .ok (.invokevirtual 159, 3) := dk_182 0 159 (dk_at dksX4_plain_1 12 rfl rfl)
theorem dX4_plain_38 : decode cX4_plain 38 = .ok (.aload_n 0, 1) := dk_42 (dk_at dksX4_plain_1 15 rfl rfl)
theorem dX4_plain_39 : decode cX4_plain 39 = .ok (.iconst 1, 1) := dk_4 (dk_at dksX4_plain_1 16 rfl rfl)
theorem dX4_plain_40 : decode cX4_plain 40 = .ok (.invokevirtual 162, 3) := dk_182 0 162 (dk_at dksX4_plain_1 17 rfl rfl)
theorem dX4_plain_43 : decode cX4_plain 43 = .ok (.iconst 1, 1) := dk_4 (dk_at dksX4_plain_1 20 rfl rfl)
theorem dX4_plain_44 : decode cX4_plain 44 = .ok (.istore_n 1, 1) := dk_60 (dk_at dksX4_plain_1 21 rfl rfl)
theorem dX4_plain_45 : decode cX4_plain 45 = .ok (.aload_n 0, 1) := dk_42 (dk_at dksX4_plain_1 22 rfl rfl)
theorem dX4_plain_46 : decode cX4_plain 46 = .ok (.getfield 137, 3) := dk_180 0 137 (dk_at dksX4_plain_2 0 rfl rfl)
theorem dX4_plain_49 : decode cX4_plain 49 = .ok (.ifCond .ne 28, 3) := dk_154 0 28 (dk_at dksX4_plain_2 3 rfl rfl)
theorem dX4_plain_52 : decode cX4_plain 52 = .ok (.aload_n 0, 1) := dk_42 (dk_at dksX4_plain_2 6 rfl rfl)
theorem dX4_plain_53 : decode cX4_plain 53 = .ok (.invokevirtual 130, 3) := dk_182 0 130 (dk_at dksX4_plain_2 7 rfl rfl)
theorem dX4_plain_56 : decode cX4_plain 56 = .ok (.bipush 109, 2) := dk_16 109 (dk_at dksX4_plain_2 10 rfl rfl)
theorem dX4_plain_58 : decode cX4_plain 58 = .ok (.if_icmp .ne 19, 3) := dk_160 0 19 (dk_at dksX4_plain_2 12 rfl rfl)
theorem dX4_plain_61 : decode cX4_plain 61 = .ok (.aload_n 0, 1) := dk_42 (dk_at dksX4_plain_2 15 rfl rfl)
theorem dX4_plain_62 : decode cX4_plain 62 = .ok (.iconst 1, 1) := dk_4 (dk_at dksX4_plain_2 16 rfl rfl)
theorem dX4_plain_63 : decode cX4_plain 63 = .ok (.invokevirtual 169, 3) := dk_182 0 169 (dk_at dksX4_plain_2 17 rfl rfl)
theorem dX4_plain_66 : decode cX4_plain 66 = .ok (.aload_n 0, 1) := dk_42 (dk_at dksX4_plain_2 20 rfl rfl)
theorem dX4_plain_67 : decode cX4_plain 67 = .ok (.invokevirtual 159, 3) := dk_182 0 159 (dk_at dksX4_plain_2 21 rfl rfl)
theorem dX4_plain_70 : decode cX4_plain 70 = .ok (.aload_n 0, 1) := dk_42 (dk_at dksX4_plain_3 0 rfl rfl)
theorem dX4_plain_71 : decode cX4_plain 71 = .ok (.iconst 2, 1) := dk_5 (dk_at dksX4_plain_3 1 rfl rfl)
theorem dX4_plain_72 : decode cX4_plain 72 = .ok (.invokevirtual 162, 3) := dk_182 0 162 (dk_at dksX4_plain_3 2 rfl rfl)
theorem dX4_plain_75 : decode cX4_plain 75 = .ok (.iconst 2, 1) := dk_5 (dk_at dksX4_plain_3 5 rfl rfl)
theorem dX4_plain_76 : decode cX4_plain 76 = .ok (.istore_n 1, 1) := dk_60 (dk_at dksX4_plain_3 6 rfl rfl)
theorem dX4_plain_77 : decode cX4_plain 77 = .ok (.aload_n 0, 1) := dk_42 (dk_at dksX4_plain_3 7 rfl rfl)
theorem dX4_plain_78 : decode cX4_plain 78 = .ok (.iconst 2, 1) := dk_5 (dk_at dksX4_plain_3 8 rfl rfl)
theorem dX4_plain_79 : decode cX4_plain 79 = .ok (.invokevirtual 169, 3) := dk_182 0 169 (dk_at dksX4_plain_3 9 rfl rfl)
theorem dX4_plain_82 : decode cX4_plain 82 = .ok (.aload_n 0, 1) := dk_42 (dk_at dksX4_plain_3 12 rfl rfl)
theorem dX4_plain_83 : decode cX4_plain 83 = .ok (.getfield 7, 3) := dk_180 0 7 (dk_at dksX4_plain_3 13 rfl rfl)
theorem dX4_plain_86 : decode cX4_plain 86 = .ok (.aload_n 0, 1) := dk_42 (dk_at dksX4_plain_3 16 rfl rfl)
theorem dX4_plain_87 : decode cX4_plain 87 = .ok (.getfield 45, 3) := dk_180 0 45 (dk_at dksX4_plain_3 17 rfl rfl)
theorem dX4_plain_90 : decode cX4_plain 90 = .ok (.iload_n 1, 1) := dk_27 (dk_at dksX4_plain_3 20 rfl rfl)
theorem dX4_plain_91 : decode cX4_plain 91 = .ok (.iastore, 1) := dk_79 (dk_at dksX4_plain_3 21 rfl rfl)
theorem dX4_plain_92 : decode cX4_plain 92 = .ok (.aload_n 0, 1) := dk_42 (dk_at dksX4_plain_3 22 rfl rfl)
theorem dX4_plain_93 : decode cX4_plain 93 = .ok (.getfield 13, 3) := dk_180 0 13 (dk_at dksX4_plain_4 0 rfl rfl)
theorem dX4_plain_96 : decode cX4_plain 96 = .ok (.aload_n 0, 1) := dk_42 (dk_at dksX4_plain_4 3 rfl rfl)
theorem dX4_plain_97 : decode cX4_plain 97 = .ok (.getfield 45, 3) := dk_180 0 45 (dk_at dksX4_plain_4 4 rfl rfl)
theorem dX4_plain_100 : decode cX4_plain 100 = .ok (.iload_n 1, 1) := dk_27 (dk_at dksX4_plain_4 7 rfl rfl)
theorem dX4_plain_101 : decode cX4_plain 101 = .ok (.ifCond .ne 7, 3) := dk_154 0 7 (dk_at dksX4_plain_4 8 rfl rfl)
theorem dX4_plain_104 : decode cX4_plain 104 = .ok (.iconst 0, 1) := dk_3 (dk_at dksX4_plain_4 11 rfl rfl)
theorem dX4_plain_105 : decode cX4_plain 105 = .ok (.goto 4, 3) := dk_167 0 4 (dk_at dksX4_plain_4 12 rfl rfl)
theorem dX4_plain_108 : decode cX4_plain 108 = .ok (.iconst 1, 1) := dk_4 (dk_at dksX4_plain_4 15 rfl rfl)
theorem dX4_plain_109 : decode cX4_plain 109 = .ok (.iastore, 1) := dk_79 (dk_at dksX4_plain_4 16 rfl rfl)
theorem dX4_plain_110 : decode cX4_plain 110 = .ok (.aload_n 0, 1) := dk_42 (dk_at dksX4_plain_4 17 rfl rfl)
theorem dX4_plain_111 : decode cX4_plain 111 = .ok (.getfield 16, 3) := dk_180 0 16 (dk_at dksX4_plain_4 18 rfl rfl)
theorem dX4_plain_114 : decode cX4_plain 114 = .ok (.aload_n 0, 1) := dk_42 (dk_at dksX4_plain_4 21 rfl rfl)
theorem dX4_plain_115 : decode cX4_plain 115 = .ok (.getfield 45, 3) := dk_180 0 45 (dk_at dksX4_plain_5 0 rfl rfl)
theorem dX4_plain_118 : decode cX4_plain 118 = .ok (.iload_n 1, 1) := dk_27 (dk_at dksX4_plain_5 3 rfl rfl)
theorem dX4_plain_119 : decode cX4_plain 119 = .ok (.iconst 1, 1) := dk_4 (dk_at dksX4_plain_5 4 rfl rfl)
theorem dX4_plain_120 : decode cX4_plain 120 = .ok (.iadd, 1) := dk_96 (dk_at dksX4_plain_5 5 rfl rfl)
theorem dX4_plain_121 : decode cX4_plain 121 = .ok (.iastore, 1) := dk_79 (dk_at dksX4_plain_5 6 rfl rfl)
theorem dX4_plain_122 : decode cX4_plain 122 = .ok (.return_, 1) := dk_177 (dk_at dksX4_plain_5 7 rfl rfl)
abbrev cX4_print : ByteArray := prog_9_method_40_code
def yX4_print : MethodName := ⟨RX4, "print", "(I)I"⟩
def dkwX4_print_7 : List UInt8 := [27, 104, 5, 96, 47, 182, 0, 188, 42, 5, 182, 0, 195, 42, 180, 0, 178, 172]
abbrev dktX4_print_7 : List UInt8 := dkwX4_print_7 ++ []
def dkwX4_print_6 : List UInt8 := [27, 46, 5, 160, 0, 29, 42, 4, 182, 0, 195, 42, 16, 47, 182, 0, 181, 42, 42, 180, 0, 19, 16, 12]
abbrev dktX4_print_6 : List UInt8 := dkwX4_print_6 ++ dktX4_print_7
def dkwX4_print_5 : List UInt8 := [16, 47, 182, 0, 181, 42, 42, 180, 0, 19, 16, 12, 27, 104, 4, 96, 47, 182, 0, 188, 42, 180, 0, 7]
abbrev dktX4_print_5 : List UInt8 := dkwX4_print_5 ++ dktX4_print_6
def dkwX4_print_4 : List UInt8 := [16, 12, 27, 104, 47, 182, 0, 188, 42, 180, 0, 7, 27, 46, 158, 0, 70, 42, 3, 182, 0, 195, 42]
abbrev dktX4_print_4 : List UInt8 := dkwX4_print_4 ++ dktX4_print_5
def dkwX4_print_3 : List UInt8 := [180, 0, 16, 27, 46, 182, 0, 192, 42, 5, 182, 0, 195, 42, 180, 0, 178, 172, 42, 42, 180, 0, 19]
abbrev dktX4_print_3 : List UInt8 := dkwX4_print_3 ++ dktX4_print_4
def dkwX4_print_2 : List UInt8 := [182, 0, 192, 42, 3, 182, 0, 195, 42, 16, 47, 182, 0, 181, 42, 27, 42, 180, 0, 13, 27, 46, 42]
abbrev dktX4_print_2 : List UInt8 := dkwX4_print_2 ++ dktX4_print_3
def dkwX4_print_1 : List UInt8 := [181, 0, 178, 42, 180, 0, 7, 27, 46, 6, 160, 0, 53, 42, 27, 3, 42, 180, 0, 13, 27, 46]
abbrev dktX4_print_1 : List UInt8 := dkwX4_print_1 ++ dktX4_print_2
def dkwX4_print_0 : List UInt8 := [42, 27, 182, 0, 68, 154, 0, 6, 16, 254, 172, 42, 27, 182, 0, 72, 153, 0, 6, 16, 245, 172, 42, 3]
abbrev dktX4_print_0 : List UInt8 := dkwX4_print_0 ++ dktX4_print_1
theorem dksX4_print_0 : cX4_print.data.toList.drop 0 = dktX4_print_0 := by decide +kernel
theorem dksX4_print_1 : cX4_print.data.toList.drop 24 = dktX4_print_1 := dk_seg dksX4_print_0 24 rfl rfl
theorem dksX4_print_2 : cX4_print.data.toList.drop 46 = dktX4_print_2 := dk_seg dksX4_print_1 22 rfl rfl
theorem dksX4_print_3 : cX4_print.data.toList.drop 69 = dktX4_print_3 := dk_seg dksX4_print_2 23 rfl rfl
theorem dksX4_print_4 : cX4_print.data.toList.drop 92 = dktX4_print_4 := dk_seg dksX4_print_3 23 rfl rfl
theorem dksX4_print_5 : cX4_print.data.toList.drop 115 = dktX4_print_5 := dk_seg dksX4_print_4 23 rfl rfl
theorem dksX4_print_6 : cX4_print.data.toList.drop 139 = dktX4_print_6 := dk_seg dksX4_print_5 24 rfl rfl
theorem dksX4_print_7 : cX4_print.data.toList.drop 163 = dktX4_print_7 := dk_seg dksX4_print_6 24 rfl rfl
theorem dX4_print_0 : decode cX4_print 0 = .ok (.aload_n 0, 1) := dk_42 (dk_at dksX4_print_0 0 rfl rfl)
theorem dX4_print_1 : decode cX4_print 1 = .ok (.iload_n 1, 1) := dk_27 (dk_at dksX4_print_0 1 rfl rfl)
theorem dX4_print_2 : decode cX4_print 2 = .ok (.invokevirtual 68, 3) := dk_182 0 68 (dk_at dksX4_print_0 2 rfl rfl)
theorem dX4_print_5 : decode cX4_print 5 = .ok (.ifCond .ne 6, 3) := dk_154 0 6 (dk_at dksX4_print_0 5 rfl rfl)
theorem dX4_print_8 : decode cX4_print 8 = .ok (.bipush (-2), 2) := dk_16 254 (dk_at dksX4_print_0 8 rfl rfl)
theorem dX4_print_10 : decode cX4_print 10 = .ok (.ireturn, 1) := dk_172 (dk_at dksX4_print_0 10 rfl rfl)
theorem dX4_print_11 : decode cX4_print 11 = .ok (.aload_n 0, 1) := dk_42 (dk_at dksX4_print_0 11 rfl rfl)
theorem dX4_print_12 : decode cX4_print 12 = .ok (.iload_n 1, 1) := dk_27 (dk_at dksX4_print_0 12 rfl rfl)
theorem dX4_print_13 : decode cX4_print 13 = .ok (.invokevirtual 72, 3) := dk_182 0 72 (dk_at dksX4_print_0 13 rfl rfl)
theorem dX4_print_16 : decode cX4_print 16 = .ok (.ifCond .eq 6, 3) := dk_153 0 6 (dk_at dksX4_print_0 16 rfl rfl)
theorem dX4_print_19 : decode cX4_print 19 = .ok (.bipush (-11), 2) := dk_16 245 (dk_at dksX4_print_0 19 rfl rfl)
theorem dX4_print_21 : decode cX4_print 21 = .ok (.ireturn, 1) := dk_172 (dk_at dksX4_print_0 21 rfl rfl)
theorem dX4_print_22 : decode cX4_print 22 = .ok (.aload_n 0, 1) := dk_42 (dk_at dksX4_print_0 22 rfl rfl)
theorem dX4_print_23 : decode cX4_print 23 = .ok (.iconst 0, 1) := dk_3 (dk_at dksX4_print_0 23 rfl rfl)
theorem dX4_print_24 : decode cX4_print 24 = .ok (.putfield 178, 3) := dk_181 0 178 (dk_at dksX4_print_1 0 rfl rfl)
theorem dX4_print_27 : decode cX4_print 27 = .ok (.aload_n 0, 1) := dk_42 (dk_at dksX4_print_1 3 rfl rfl)
theorem dX4_print_28 : decode cX4_print 28 = .ok (.getfield 7, 3) := dk_180 0 7 (dk_at dksX4_print_1 4 rfl rfl)
theorem dX4_print_31 : decode cX4_print 31 = .ok (.iload_n 1, 1) := dk_27 (dk_at dksX4_print_1 7 rfl rfl)
theorem dX4_print_32 : decode cX4_print 32 = .ok (.iaload, 1) := dk_46 (dk_at dksX4_print_1 8 rfl rfl)
theorem dX4_print_33 : decode cX4_print 33 = .ok (.iconst 3, 1) := dk_6 (dk_at dksX4_print_1 9 rfl rfl)
theorem dX4_print_34 : decode cX4_print 34 = .ok (.if_icmp .ne 53, 3) := dk_160 0 53 (dk_at dksX4_print_1 10 rfl rfl)
theorem dX4_print_37 : decode cX4_print 37 = .ok (.aload_n 0, 1) := dk_42 (dk_at dksX4_print_1 13 rfl rfl)
theorem dX4_print_38 : decode cX4_print 38 = .ok (.iload_n 1, 1) := dk_27 (dk_at dksX4_print_1 14 rfl rfl)
theorem dX4_print_39 : decode cX4_print 39 = .ok (.iconst 0, 1) := dk_3 (dk_at dksX4_print_1 15 rfl rfl)
theorem dX4_print_40 : decode cX4_print 40 = .ok (.aload_n 0, 1) := dk_42 (dk_at dksX4_print_1 16 rfl rfl)
theorem dX4_print_41 : decode cX4_print 41 = .ok (.getfield 13, 3) := dk_180 0 13 (dk_at dksX4_print_1 17 rfl rfl)
theorem dX4_print_44 : decode cX4_print 44 = .ok (.iload_n 1, 1) := dk_27 (dk_at dksX4_print_1 20 rfl rfl)
theorem dX4_print_45 : decode cX4_print 45 = .ok (.iaload, 1) := dk_46 (dk_at dksX4_print_1 21 rfl rfl)
theorem dX4_print_46 : decode cX4_print 46 = .ok (.invokevirtual 192, 3) := dk_182 0 192 (dk_at dksX4_print_2 0 rfl rfl)
theorem dX4_print_49 : decode cX4_print 49 = .ok (.aload_n 0, 1) := dk_42 (dk_at dksX4_print_2 3 rfl rfl)
theorem dX4_print_50 : decode cX4_print 50 = .ok (.iconst 0, 1) := dk_3 (dk_at dksX4_print_2 4 rfl rfl)
theorem dX4_print_51 : decode cX4_print 51 = .ok (.invokevirtual 195, 3) := dk_182 0 195 (dk_at dksX4_print_2 5 rfl rfl)
theorem dX4_print_54 : decode cX4_print 54 = .ok (.aload_n 0, 1) := dk_42 (dk_at dksX4_print_2 8 rfl rfl)
theorem dX4_print_55 : decode cX4_print 55 = .ok (.bipush 47, 2) := dk_16 47 (dk_at dksX4_print_2 9 rfl rfl)
theorem dX4_print_57 : decode cX4_print 57 = .ok (.invokevirtual 181, 3) := dk_182 0 181 (dk_at dksX4_print_2 11 rfl rfl)
theorem dX4_print_60 : decode cX4_print 60 = .ok (.aload_n 0, 1) := dk_42 (dk_at dksX4_print_2 14 rfl rfl)
theorem dX4_print_61 : decode cX4_print 61 = .ok (.iload_n 1, 1) := dk_27 (dk_at dksX4_print_2 15 rfl rfl)
theorem dX4_print_62 : decode cX4_print 62 = .ok (.aload_n 0, 1) := dk_42 (dk_at dksX4_print_2 16 rfl rfl)
theorem dX4_print_63 : decode cX4_print 63 = .ok (.getfield 13, 3) := dk_180 0 13 (dk_at dksX4_print_2 17 rfl rfl)
theorem dX4_print_66 : decode cX4_print 66 = .ok (.iload_n 1, 1) := dk_27 (dk_at dksX4_print_2 20 rfl rfl)
theorem dX4_print_67 : decode cX4_print 67 = .ok (.iaload, 1) := dk_46 (dk_at dksX4_print_2 21 rfl rfl)
theorem dX4_print_68 : decode cX4_print 68 = .ok (.aload_n 0, 1) := dk_42 (dk_at dksX4_print_2 22 rfl rfl)
theorem dX4_print_69 : decode cX4_print 69 = .ok (.getfield 16, 3) := dk_180 0 16 (dk_at dksX4_print_3 0 rfl rfl)
theorem dX4_print_72 : decode cX4_print 72 = .ok (.iload_n 1, 1) := dk_27 (dk_at dksX4_print_3 3 rfl rfl)
theorem dX4_print_73 : decode cX4_print 73 = .ok (.iaload, 1) := dk_46 (dk_at dksX4_print_3 4 rfl rfl)
theorem dX4_print_74 : decode cX4_print 74 = .ok (.invokevirtual 192, 3) := dk_182 0 192 (dk_at dksX4_print_3 5 rfl rfl)
theorem dX4_print_77 : decode cX4_print 77 = .ok (.aload_n 0, 1) := dk_42 (dk_at dksX4_print_3 8 rfl rfl)
theorem dX4_print_78 : decode cX4_print 78 = .ok (.iconst 2, 1) := dk_5 (dk_at dksX4_print_3 9 rfl rfl)
theorem dX4_print_79 : decode cX4_print 79 = .ok (.invokevirtual 195, 3) := dk_182 0 195 (dk_at dksX4_print_3 10 rfl rfl)
theorem dX4_print_82 : decode cX4_print 82 = .ok (.aload_n 0, 1) := dk_42 (dk_at dksX4_print_3 13 rfl rfl)
theorem dX4_print_83 : decode cX4_print 83 = .ok (.getfield 178, 3) := dk_180 0 178 (dk_at dksX4_print_3 14 rfl rfl)
theorem dX4_print_86 : decode cX4_print 86 = .ok (.ireturn, 1) := dk_172 (dk_at dksX4_print_3 17 rfl rfl)
theorem dX4_print_87 : decode cX4_print 87 = .ok (.aload_n 0, 1) := dk_42 (dk_at dksX4_print_3 18 rfl rfl)
theorem dX4_print_88 : decode cX4_print 88 = .ok (.aload_n 0, 1) := dk_42 (dk_at dksX4_print_3 19 rfl rfl)
theorem dX4_print_89 : decode cX4_print 89 = .ok (.getfield 19, 3) := dk_180 0 19 (dk_at dksX4_print_3 20 rfl rfl)
theorem dX4_print_92 : decode cX4_print 92 = .ok (.bipush 12, 2) := dk_16 12 (dk_at dksX4_print_4 0 rfl rfl)
theorem dX4_print_94 : decode cX4_print 94 = .ok (.iload_n 1, 1) := dk_27 (dk_at dksX4_print_4 2 rfl rfl)
theorem dX4_print_95 : decode cX4_print 95 = .ok (.imul, 1) := dk_104 (dk_at dksX4_print_4 3 rfl rfl)
theorem dX4_print_96 : decode cX4_print 96 = .ok (.laload, 1) := dk_47 (dk_at dksX4_print_4 4 rfl rfl)
theorem dX4_print_97 : decode cX4_print 97 = .ok (.invokevirtual 188, 3) := dk_182 0 188 (dk_at dksX4_print_4 5 rfl rfl)
theorem dX4_print_100 : decode cX4_print 100 = .ok (.aload_n 0, 1) := dk_42 (dk_at dksX4_print_4 8 rfl rfl)
theorem dX4_print_101 : decode cX4_print 101 = .ok (.getfield 7, 3) := dk_180 0 7 (dk_at dksX4_print_4 9 rfl rfl)
theorem dX4_print_104 : decode cX4_print 104 = .ok (.iload_n 1, 1) := dk_27 (dk_at dksX4_print_4 12 rfl rfl)
theorem dX4_print_105 : decode cX4_print 105 = .ok (.iaload, 1) := dk_46 (dk_at dksX4_print_4 13 rfl rfl)
theorem dX4_print_106 : decode cX4_print 106 = .ok (.ifCond .le 70, 3) := dk_158 0 70 (dk_at dksX4_print_4 14 rfl rfl)
theorem dX4_print_109 : decode cX4_print 109 = .ok (.aload_n 0, 1) := dk_42 (dk_at dksX4_print_4 17 rfl rfl)
theorem dX4_print_110 : decode cX4_print 110 = .ok (.iconst 0, 1) := dk_3 (dk_at dksX4_print_4 18 rfl rfl)
theorem dX4_print_111 : decode cX4_print 111 = .ok (.invokevirtual 195, 3) := dk_182 0 195 (dk_at dksX4_print_4 19 rfl rfl)
theorem dX4_print_114 : decode cX4_print 114 = .ok (.aload_n 0, 1) := dk_42 (dk_at dksX4_print_4 22 rfl rfl)
theorem dX4_print_115 : decode cX4_print 115 = .ok (.bipush 47, 2) := dk_16 47 (dk_at dksX4_print_5 0 rfl rfl)
theorem dX4_print_117 : decode cX4_print 117 = .ok (.invokevirtual 181, 3) := dk_182 0 181 (dk_at dksX4_print_5 2 rfl rfl)
theorem dX4_print_120 : decode cX4_print 120 = .ok (.aload_n 0, 1) := dk_42 (dk_at dksX4_print_5 5 rfl rfl)
theorem dX4_print_121 : decode cX4_print 121 = .ok (.aload_n 0, 1) := dk_42 (dk_at dksX4_print_5 6 rfl rfl)
theorem dX4_print_122 : decode cX4_print 122 = .ok (.getfield 19, 3) := dk_180 0 19 (dk_at dksX4_print_5 7 rfl rfl)
theorem dX4_print_125 : decode cX4_print 125 = .ok (.bipush 12, 2) := dk_16 12 (dk_at dksX4_print_5 10 rfl rfl)
theorem dX4_print_127 : decode cX4_print 127 = .ok (.iload_n 1, 1) := dk_27 (dk_at dksX4_print_5 12 rfl rfl)
theorem dX4_print_128 : decode cX4_print 128 = .ok (.imul, 1) := dk_104 (dk_at dksX4_print_5 13 rfl rfl)
theorem dX4_print_129 : decode cX4_print 129 = .ok (.iconst 1, 1) := dk_4 (dk_at dksX4_print_5 14 rfl rfl)
theorem dX4_print_130 : decode cX4_print 130 = .ok (.iadd, 1) := dk_96 (dk_at dksX4_print_5 15 rfl rfl)
theorem dX4_print_131 : decode cX4_print 131 = .ok (.laload, 1) := dk_47 (dk_at dksX4_print_5 16 rfl rfl)
theorem dX4_print_132 : decode cX4_print 132 = .ok (.invokevirtual 188, 3) := dk_182 0 188 (dk_at dksX4_print_5 17 rfl rfl)
theorem dX4_print_135 : decode cX4_print 135 = .ok (.aload_n 0, 1) := dk_42 (dk_at dksX4_print_5 20 rfl rfl)
theorem dX4_print_136 : decode cX4_print 136 = .ok (.getfield 7, 3) := dk_180 0 7 (dk_at dksX4_print_5 21 rfl rfl)
theorem dX4_print_139 : decode cX4_print 139 = .ok (.iload_n 1, 1) := dk_27 (dk_at dksX4_print_6 0 rfl rfl)
theorem dX4_print_140 : decode cX4_print 140 = .ok (.iaload, 1) := dk_46 (dk_at dksX4_print_6 1 rfl rfl)
theorem dX4_print_141 : decode cX4_print 141 = .ok (.iconst 2, 1) := dk_5 (dk_at dksX4_print_6 2 rfl rfl)
theorem dX4_print_142 : decode cX4_print 142 = .ok (.if_icmp .ne 29, 3) := dk_160 0 29 (dk_at dksX4_print_6 3 rfl rfl)
theorem dX4_print_145 : decode cX4_print 145 = .ok (.aload_n 0, 1) := dk_42 (dk_at dksX4_print_6 6 rfl rfl)
theorem dX4_print_146 : decode cX4_print 146 = .ok (.iconst 1, 1) := dk_4 (dk_at dksX4_print_6 7 rfl rfl)
theorem dX4_print_147 : decode cX4_print 147 = .ok (.invokevirtual 195, 3) := dk_182 0 195 (dk_at dksX4_print_6 8 rfl rfl)
theorem dX4_print_150 : decode cX4_print 150 = .ok (.aload_n 0, 1) := dk_42 (dk_at dksX4_print_6 11 rfl rfl)
theorem dX4_print_151 : decode cX4_print 151 = .ok (.bipush 47, 2) := dk_16 47 (dk_at dksX4_print_6 12 rfl rfl)
theorem dX4_print_153 : decode cX4_print 153 = .ok (.invokevirtual 181, 3) := dk_182 0 181 (dk_at dksX4_print_6 14 rfl rfl)
theorem dX4_print_156 : decode cX4_print 156 = .ok (.aload_n 0, 1) := dk_42 (dk_at dksX4_print_6 17 rfl rfl)
theorem dX4_print_157 : decode cX4_print 157 = .ok (.aload_n 0, 1) := dk_42 (dk_at dksX4_print_6 18 rfl rfl)
theorem dX4_print_158 : decode cX4_print 158 = .ok (.getfield 19, 3) := dk_180 0 19 (dk_at dksX4_print_6 19 rfl rfl)
theorem dX4_print_161 : decode cX4_print 161 = .ok (.bipush 12, 2) := dk_16 12 (dk_at dksX4_print_6 22 rfl rfl)
theorem dX4_print_163 : decode cX4_print 163 = .ok (.iload_n 1, 1) := dk_27 (dk_at dksX4_print_7 0 rfl rfl)
theorem dX4_print_164 : decode cX4_print 164 = .ok (.imul, 1) := dk_104 (dk_at dksX4_print_7 1 rfl rfl)
theorem dX4_print_165 : decode cX4_print 165 = .ok (.iconst 2, 1) := dk_5 (dk_at dksX4_print_7 2 rfl rfl)
theorem dX4_print_166 : decode cX4_print 166 = .ok (.iadd, 1) := dk_96 (dk_at dksX4_print_7 3 rfl rfl)
theorem dX4_print_167 : decode cX4_print 167 = .ok (.laload, 1) := dk_47 (dk_at dksX4_print_7 4 rfl rfl)
theorem dX4_print_168 : decode cX4_print 168 = .ok (.invokevirtual 188, 3) := dk_182 0 188 (dk_at dksX4_print_7 5 rfl rfl)
theorem dX4_print_171 : decode cX4_print 171 = .ok (.aload_n 0, 1) := dk_42 (dk_at dksX4_print_7 8 rfl rfl)
theorem dX4_print_172 : decode cX4_print 172 = .ok (.iconst 2, 1) := dk_5 (dk_at dksX4_print_7 9 rfl rfl)
theorem dX4_print_173 : decode cX4_print 173 = .ok (.invokevirtual 195, 3) := dk_182 0 195 (dk_at dksX4_print_7 10 rfl rfl)
theorem dX4_print_176 : decode cX4_print 176 = .ok (.aload_n 0, 1) := dk_42 (dk_at dksX4_print_7 13 rfl rfl)
theorem dX4_print_177 : decode cX4_print 177 = .ok (.getfield 178, 3) := dk_180 0 178 (dk_at dksX4_print_7 14 rfl rfl)
theorem dX4_print_180 : decode cX4_print 180 = .ok (.ireturn, 1) := dk_172 (dk_at dksX4_print_7 17 rfl rfl)
abbrev cX4_writeRow : ByteArray := prog_9_method_39_code
def yX4_writeRow : MethodName := ⟨RX4, "writeRow", "(III)V"⟩
def dkwX4_writeRow_2 : List UInt8 := [167, 255, 219, 42, 16, 93, 182, 0, 181, 177]
abbrev dktX4_writeRow_2 : List UInt8 := dkwX4_writeRow_2 ++ []
def dkwX4_writeRow_1 : List UInt8 := [182, 0, 181, 42, 42, 180, 0, 19, 16, 12, 27, 104, 21, 4, 96, 47, 182, 0, 188, 132, 4, 1]
abbrev dktX4_writeRow_1 : List UInt8 := dkwX4_writeRow_1 ++ dktX4_writeRow_2
def dkwX4_writeRow_0 : List UInt8 := [42, 16, 91, 182, 0, 181, 28, 54, 4, 21, 4, 29, 162, 0, 37, 21, 4, 28, 164, 0, 9, 42, 16, 47]
abbrev dktX4_writeRow_0 : List UInt8 := dkwX4_writeRow_0 ++ dktX4_writeRow_1
theorem dksX4_writeRow_0 : cX4_writeRow.data.toList.drop 0 = dktX4_writeRow_0 := by decide +kernel
theorem dksX4_writeRow_1 : cX4_writeRow.data.toList.drop 24 = dktX4_writeRow_1 := dk_seg dksX4_writeRow_0 24 rfl rfl
theorem dksX4_writeRow_2 : cX4_writeRow.data.toList.drop 46 = dktX4_writeRow_2 := dk_seg dksX4_writeRow_1 22 rfl rfl
theorem dX4_writeRow_0 : decode cX4_writeRow 0 = .ok (.aload_n 0, 1) := dk_42 (dk_at dksX4_writeRow_0 0 rfl rfl)
theorem dX4_writeRow_1 : decode cX4_writeRow 1 = .ok (.bipush 91, 2) := dk_16 91 (dk_at dksX4_writeRow_0 1 rfl rfl)
theorem dX4_writeRow_3 : decode cX4_writeRow 3 = .ok (.invokevirtual 181, 3) := dk_182 0 181 (dk_at dksX4_writeRow_0 3 rfl rfl)
theorem dX4_writeRow_6 : decode cX4_writeRow 6 = .ok (.iload_n 2, 1) := dk_28 (dk_at dksX4_writeRow_0 6 rfl rfl)
theorem dX4_writeRow_7 : decode cX4_writeRow 7 = .ok (.istore 4, 2) := dk_54 4 (dk_at dksX4_writeRow_0 7 rfl rfl)
theorem dX4_writeRow_9 : decode cX4_writeRow 9 = .ok (.iload 4, 2) := dk_21 4 (dk_at dksX4_writeRow_0 9 rfl rfl)
theorem dX4_writeRow_11 : decode cX4_writeRow 11 = .ok (.iload_n 3, 1) := dk_29 (dk_at dksX4_writeRow_0 11 rfl rfl)
theorem dX4_writeRow_12 : decode cX4_writeRow 12 = .ok (.if_icmp .ge 37, 3) := dk_162 0 37 (dk_at dksX4_writeRow_0 12 rfl rfl)
theorem dX4_writeRow_15 : decode cX4_writeRow 15 = .ok (.iload 4, 2) := dk_21 4 (dk_at dksX4_writeRow_0 15 rfl rfl)
theorem dX4_writeRow_17 : decode cX4_writeRow 17 = .ok (.iload_n 2, 1) := dk_28 (dk_at dksX4_writeRow_0 17 rfl rfl)
theorem dX4_writeRow_18 : decode cX4_writeRow 18 = .ok (.if_icmp .le 9, 3) := dk_164 0 9 (dk_at dksX4_writeRow_0 18 rfl rfl)
theorem dX4_writeRow_21 : decode cX4_writeRow 21 = .ok (.aload_n 0, 1) := dk_42 (dk_at dksX4_writeRow_0 21 rfl rfl)
theorem dX4_writeRow_22 : decode cX4_writeRow 22 = .ok (.bipush 47, 2) := dk_16 47 (dk_at dksX4_writeRow_0 22 rfl rfl)
theorem dX4_writeRow_24 : decode cX4_writeRow 24 = .ok (.invokevirtual 181, 3) := dk_182 0 181 (dk_at dksX4_writeRow_1 0 rfl rfl)
theorem dX4_writeRow_27 : decode cX4_writeRow 27 = .ok (.aload_n 0, 1) := dk_42 (dk_at dksX4_writeRow_1 3 rfl rfl)
theorem dX4_writeRow_28 : decode cX4_writeRow 28 = .ok (.aload_n 0, 1) := dk_42 (dk_at dksX4_writeRow_1 4 rfl rfl)
theorem dX4_writeRow_29 : decode cX4_writeRow 29 = .ok (.getfield 19, 3) := dk_180 0 19 (dk_at dksX4_writeRow_1 5 rfl rfl)
theorem dX4_writeRow_32 : decode cX4_writeRow 32 = .ok (.bipush 12, 2) := dk_16 12 (dk_at dksX4_writeRow_1 8 rfl rfl)
theorem dX4_writeRow_34 : decode cX4_writeRow 34 = .ok (.iload_n 1, 1) := dk_27 (dk_at dksX4_writeRow_1 10 rfl rfl)
theorem dX4_writeRow_35 : decode cX4_writeRow 35 = .ok (.imul, 1) := dk_104 (dk_at dksX4_writeRow_1 11 rfl rfl)
theorem dX4_writeRow_36 : decode cX4_writeRow 36 = .ok (.iload 4, 2) := dk_21 4 (dk_at dksX4_writeRow_1 12 rfl rfl)
theorem dX4_writeRow_38 : decode cX4_writeRow 38 = .ok (.iadd, 1) := dk_96 (dk_at dksX4_writeRow_1 14 rfl rfl)
theorem dX4_writeRow_39 : decode cX4_writeRow 39 = .ok (.laload, 1) := dk_47 (dk_at dksX4_writeRow_1 15 rfl rfl)
theorem dX4_writeRow_40 : decode cX4_writeRow 40 = .ok (.invokevirtual 188, 3) := dk_182 0 188 (dk_at dksX4_writeRow_1 16 rfl rfl)
theorem dX4_writeRow_43 : decode cX4_writeRow 43 = .ok (.iinc 4 1, 3) := dk_132 4 1 (dk_at dksX4_writeRow_1 19 rfl rfl)
theorem dX4_writeRow_46 : decode cX4_writeRow 46 = .ok (.goto (-37), 3) := dk_167 255 219 (dk_at dksX4_writeRow_2 0 rfl rfl)
theorem dX4_writeRow_49 : decode cX4_writeRow 49 = .ok (.aload_n 0, 1) := dk_42 (dk_at dksX4_writeRow_2 3 rfl rfl)
theorem dX4_writeRow_50 : decode cX4_writeRow 50 = .ok (.bipush 93, 2) := dk_16 93 (dk_at dksX4_writeRow_2 4 rfl rfl)
theorem dX4_writeRow_52 : decode cX4_writeRow 52 = .ok (.invokevirtual 181, 3) := dk_182 0 181 (dk_at dksX4_writeRow_2 6 rfl rfl)
theorem dX4_writeRow_55 : decode cX4_writeRow 55 = .ok (.return_, 1) := dk_177 (dk_at dksX4_writeRow_2 9 rfl rfl)
abbrev cX4_write : ByteArray := prog_9_method_36_code
def yX4_write : MethodName := ⟨RX4, "write", "(I)V"⟩
def dkwX4_write_0 : List UInt8 := [42, 180, 0, 39, 42, 180, 0, 178, 27, 79, 42, 89, 180, 0, 178, 4, 96, 181, 0, 178, 177]
abbrev dktX4_write_0 : List UInt8 := dkwX4_write_0 ++ []
theorem dksX4_write_0 : cX4_write.data.toList.drop 0 = dktX4_write_0 := by decide +kernel
theorem dX4_write_0 : decode cX4_write 0 = .ok (.aload_n 0, 1) := dk_42 (dk_at dksX4_write_0 0 rfl rfl)
theorem dX4_write_1 : decode cX4_write 1 = .ok (.getfield 39, 3) := dk_180 0 39 (dk_at dksX4_write_0 1 rfl rfl)
theorem dX4_write_4 : decode cX4_write 4 = .ok (.aload_n 0, 1) := dk_42 (dk_at dksX4_write_0 4 rfl rfl)
theorem dX4_write_5 : decode cX4_write 5 = .ok (.getfield 178, 3) := dk_180 0 178 (dk_at dksX4_write_0 5 rfl rfl)
theorem dX4_write_8 : decode cX4_write 8 = .ok (.iload_n 1, 1) := dk_27 (dk_at dksX4_write_0 8 rfl rfl)
theorem dX4_write_9 : decode cX4_write 9 = .ok (.iastore, 1) := dk_79 (dk_at dksX4_write_0 9 rfl rfl)
theorem dX4_write_10 : decode cX4_write 10 = .ok (.aload_n 0, 1) := dk_42 (dk_at dksX4_write_0 10 rfl rfl)
theorem dX4_write_11 : decode cX4_write 11 = .ok (.dup, 1) := dk_89 (dk_at dksX4_write_0 11 rfl rfl)
theorem dX4_write_12 : decode cX4_write 12 = .ok (.getfield 178, 3) := dk_180 0 178 (dk_at dksX4_write_0 12 rfl rfl)
theorem dX4_write_15 : decode cX4_write 15 = .ok (.iconst 1, 1) := dk_4 (dk_at dksX4_write_0 15 rfl rfl)
theorem dX4_write_16 : decode cX4_write 16 = .ok (.iadd, 1) := dk_96 (dk_at dksX4_write_0 16 rfl rfl)
theorem dX4_write_17 : decode cX4_write 17 = .ok (.putfield 178, 3) := dk_181 0 178 (dk_at dksX4_write_0 17 rfl rfl)
theorem dX4_write_20 : decode cX4_write 20 = .ok (.return_, 1) := dk_177 (dk_at dksX4_write_0 20 rfl rfl)
abbrev cX4_writeNumber : ByteArray := prog_9_method_37_code
def yX4_writeNumber : MethodName := ⟨RX4, "writeNumber", "(J)V"⟩
def dkwX4_writeNumber_4 : List UInt8 := [167, 255, 208, 177]
abbrev dktX4_writeNumber_4 : List UInt8 := dkwX4_writeNumber_4 ++ []
def dkwX4_writeNumber_3 : List UInt8 := [156, 0, 9, 22, 7, 117, 167, 0, 5, 22, 7, 136, 96, 182, 0, 181, 22, 5, 20, 0, 154, 109, 55, 5]
abbrev dktX4_writeNumber_3 : List UInt8 := dkwX4_writeNumber_3 ++ dktX4_writeNumber_4
def dkwX4_writeNumber_2 : List UInt8 := [9, 148, 158, 0, 47, 31, 22, 5, 109, 20, 0, 154, 113, 55, 7, 42, 16, 48, 22, 7, 9, 148]
abbrev dktX4_writeNumber_2 : List UInt8 := dkwX4_writeNumber_2 ++ dktX4_writeNumber_3
def dkwX4_writeNumber_1 : List UInt8 := [31, 33, 109, 20, 0, 186, 148, 156, 0, 12, 33, 20, 0, 154, 105, 66, 167, 255, 230, 33, 55, 5, 22, 5]
abbrev dktX4_writeNumber_1 : List UInt8 := dkwX4_writeNumber_1 ++ dktX4_writeNumber_2
def dkwX4_writeNumber_0 : List UInt8 := [31, 9, 148, 156, 0, 9, 42, 16, 45, 182, 0, 181, 10, 66, 31, 33, 109, 20, 0, 184, 148, 157, 0, 13]
abbrev dktX4_writeNumber_0 : List UInt8 := dkwX4_writeNumber_0 ++ dktX4_writeNumber_1
theorem dksX4_writeNumber_0 : cX4_writeNumber.data.toList.drop 0 = dktX4_writeNumber_0 := by decide +kernel
theorem dksX4_writeNumber_1 : cX4_writeNumber.data.toList.drop 24 = dktX4_writeNumber_1 := dk_seg dksX4_writeNumber_0 24 rfl rfl
theorem dksX4_writeNumber_2 : cX4_writeNumber.data.toList.drop 48 = dktX4_writeNumber_2 := dk_seg dksX4_writeNumber_1 24 rfl rfl
theorem dksX4_writeNumber_3 : cX4_writeNumber.data.toList.drop 70 = dktX4_writeNumber_3 := dk_seg dksX4_writeNumber_2 22 rfl rfl
theorem dksX4_writeNumber_4 : cX4_writeNumber.data.toList.drop 94 = dktX4_writeNumber_4 := dk_seg dksX4_writeNumber_3 24 rfl rfl
theorem dX4_writeNumber_0 : decode cX4_writeNumber 0 = .ok (.lload_n 1, 1) := dk_31 (dk_at dksX4_writeNumber_0 0 rfl rfl)
theorem dX4_writeNumber_1 : decode cX4_writeNumber 1 = .ok (.lconst 0, 1) := dk_9 (dk_at dksX4_writeNumber_0 1 rfl rfl)
theorem dX4_writeNumber_2 : decode cX4_writeNumber 2 = .ok (.lcmp, 1) := dk_148 (dk_at dksX4_writeNumber_0 2 rfl rfl)
theorem dX4_writeNumber_3 : decode cX4_writeNumber 3 = .ok (.ifCond .ge 9, 3) := dk_156 0 9 (dk_at dksX4_writeNumber_0 3 rfl rfl)
theorem dX4_writeNumber_6 : decode cX4_writeNumber 6 = .ok (.aload_n 0, 1) := dk_42 (dk_at dksX4_writeNumber_0 6 rfl rfl)
theorem dX4_writeNumber_7 : decode cX4_writeNumber 7 = .ok (.bipush 45, 2) := dk_16 45 (dk_at dksX4_writeNumber_0 7 rfl rfl)
theorem dX4_writeNumber_9 : decode cX4_writeNumber 9 = .ok (.invokevirtual 181, 3) := dk_182 0 181 (dk_at dksX4_writeNumber_0 9 rfl rfl)
theorem dX4_writeNumber_12 : decode cX4_writeNumber 12 = .ok (.lconst 1, 1) := dk_10 (dk_at dksX4_writeNumber_0 12 rfl rfl)
theorem dX4_writeNumber_13 : decode cX4_writeNumber 13 = .ok (.lstore_n 3, 1) := dk_66 (dk_at dksX4_writeNumber_0 13 rfl rfl)
theorem dX4_writeNumber_14 : decode cX4_writeNumber 14 = .ok (.lload_n 1, 1) := dk_31 (dk_at dksX4_writeNumber_0 14 rfl rfl)
theorem dX4_writeNumber_15 : decode cX4_writeNumber 15 = .ok (.lload_n 3, 1) := dk_33 (dk_at dksX4_writeNumber_0 15 rfl rfl)
theorem dX4_writeNumber_16 : decode cX4_writeNumber 16 = .ok (.ldiv, 1) := dk_109 (dk_at dksX4_writeNumber_0 16 rfl rfl)
theorem dX4_writeNumber_17 : decode cX4_writeNumber 17 = .ok (.ldc2_w 184, 3) := dk_20 0 184 (dk_at dksX4_writeNumber_0 17 rfl rfl)
theorem dX4_writeNumber_20 : decode cX4_writeNumber 20 = .ok (.lcmp, 1) := dk_148 (dk_at dksX4_writeNumber_0 20 rfl rfl)
theorem dX4_writeNumber_21 : decode cX4_writeNumber 21 = .ok (.ifCond .gt 13, 3) := dk_157 0 13 (dk_at dksX4_writeNumber_0 21 rfl rfl)
theorem dX4_writeNumber_24 : decode cX4_writeNumber 24 = .ok (.lload_n 1, 1) := dk_31 (dk_at dksX4_writeNumber_1 0 rfl rfl)
theorem dX4_writeNumber_25 : decode cX4_writeNumber 25 = .ok (.lload_n 3, 1) := dk_33 (dk_at dksX4_writeNumber_1 1 rfl rfl)
theorem dX4_writeNumber_26 : decode cX4_writeNumber 26 = .ok (.ldiv, 1) := dk_109 (dk_at dksX4_writeNumber_1 2 rfl rfl)
theorem dX4_writeNumber_27 : decode cX4_writeNumber 27 = .ok (.ldc2_w 186, 3) := dk_20 0 186 (dk_at dksX4_writeNumber_1 3 rfl rfl)
theorem dX4_writeNumber_30 : decode cX4_writeNumber 30 = .ok (.lcmp, 1) := dk_148 (dk_at dksX4_writeNumber_1 6 rfl rfl)
theorem dX4_writeNumber_31 : decode cX4_writeNumber 31 = .ok (.ifCond .ge 12, 3) := dk_156 0 12 (dk_at dksX4_writeNumber_1 7 rfl rfl)
theorem dX4_writeNumber_34 : decode cX4_writeNumber 34 = .ok (.lload_n 3, 1) := dk_33 (dk_at dksX4_writeNumber_1 10 rfl rfl)
theorem dX4_writeNumber_35 : decode cX4_writeNumber 35 = .ok (.ldc2_w 154, 3) := dk_20 0 154 (dk_at dksX4_writeNumber_1 11 rfl rfl)
theorem dX4_writeNumber_38 : decode cX4_writeNumber 38 = .ok (.lmul, 1) := dk_105 (dk_at dksX4_writeNumber_1 14 rfl rfl)
theorem dX4_writeNumber_39 : decode cX4_writeNumber 39 = .ok (.lstore_n 3, 1) := dk_66 (dk_at dksX4_writeNumber_1 15 rfl rfl)
theorem dX4_writeNumber_40 : decode cX4_writeNumber 40 = .ok (.goto (-26), 3) := dk_167 255 230 (dk_at dksX4_writeNumber_1 16 rfl rfl)
theorem dX4_writeNumber_43 : decode cX4_writeNumber 43 = .ok (.lload_n 3, 1) := dk_33 (dk_at dksX4_writeNumber_1 19 rfl rfl)
theorem dX4_writeNumber_44 : decode cX4_writeNumber 44 = .ok (.lstore 5, 2) := dk_55 5 (dk_at dksX4_writeNumber_1 20 rfl rfl)
theorem dX4_writeNumber_46 : decode cX4_writeNumber 46 = .ok (.lload 5, 2) := dk_22 5 (dk_at dksX4_writeNumber_1 22 rfl rfl)
theorem dX4_writeNumber_48 : decode cX4_writeNumber 48 = .ok (.lconst 0, 1) := dk_9 (dk_at dksX4_writeNumber_2 0 rfl rfl)
theorem dX4_writeNumber_49 : decode cX4_writeNumber 49 = .ok (.lcmp, 1) := dk_148 (dk_at dksX4_writeNumber_2 1 rfl rfl)
theorem dX4_writeNumber_50 : decode cX4_writeNumber 50 = .ok (.ifCond .le 47, 3) := dk_158 0 47 (dk_at dksX4_writeNumber_2 2 rfl rfl)
theorem dX4_writeNumber_53 : decode cX4_writeNumber 53 = .ok (.lload_n 1, 1) := dk_31 (dk_at dksX4_writeNumber_2 5 rfl rfl)
theorem dX4_writeNumber_54 : decode cX4_writeNumber 54 = .ok (.lload 5, 2) := dk_22 5 (dk_at dksX4_writeNumber_2 6 rfl rfl)
theorem dX4_writeNumber_56 : decode cX4_writeNumber 56 = .ok (.ldiv, 1) := dk_109 (dk_at dksX4_writeNumber_2 8 rfl rfl)
theorem dX4_writeNumber_57 : decode cX4_writeNumber 57 = .ok (.ldc2_w 154, 3) := dk_20 0 154 (dk_at dksX4_writeNumber_2 9 rfl rfl)
theorem dX4_writeNumber_60 : decode cX4_writeNumber 60 = .ok (.lrem, 1) := dk_113 (dk_at dksX4_writeNumber_2 12 rfl rfl)
theorem dX4_writeNumber_61 : decode cX4_writeNumber 61 = .ok (.lstore 7, 2) := dk_55 7 (dk_at dksX4_writeNumber_2 13 rfl rfl)
theorem dX4_writeNumber_63 : decode cX4_writeNumber 63 = .ok (.aload_n 0, 1) := dk_42 (dk_at dksX4_writeNumber_2 15 rfl rfl)
theorem dX4_writeNumber_64 : decode cX4_writeNumber 64 = .ok (.bipush 48, 2) := dk_16 48 (dk_at dksX4_writeNumber_2 16 rfl rfl)
theorem dX4_writeNumber_66 : decode cX4_writeNumber 66 = .ok (.lload 7, 2) := dk_22 7 (dk_at dksX4_writeNumber_2 18 rfl rfl)
theorem dX4_writeNumber_68 : decode cX4_writeNumber 68 = .ok (.lconst 0, 1) := dk_9 (dk_at dksX4_writeNumber_2 20 rfl rfl)
theorem dX4_writeNumber_69 : decode cX4_writeNumber 69 = .ok (.lcmp, 1) := dk_148 (dk_at dksX4_writeNumber_2 21 rfl rfl)
theorem dX4_writeNumber_70 : decode cX4_writeNumber 70 = .ok (.ifCond .ge 9, 3) := dk_156 0 9 (dk_at dksX4_writeNumber_3 0 rfl rfl)
theorem dX4_writeNumber_73 : decode cX4_writeNumber 73 = .ok (.lload 7, 2) := dk_22 7 (dk_at dksX4_writeNumber_3 3 rfl rfl)
theorem dX4_writeNumber_75 : decode cX4_writeNumber 75 = .ok (.lneg, 1) := dk_117 (dk_at dksX4_writeNumber_3 5 rfl rfl)
theorem dX4_writeNumber_76 : decode cX4_writeNumber 76 = .ok (.goto 5, 3) := dk_167 0 5 (dk_at dksX4_writeNumber_3 6 rfl rfl)
theorem dX4_writeNumber_79 : decode cX4_writeNumber 79 = .ok (.lload 7, 2) := dk_22 7 (dk_at dksX4_writeNumber_3 9 rfl rfl)
theorem dX4_writeNumber_81 : decode cX4_writeNumber 81 = .ok (.l2i, 1) := dk_136 (dk_at dksX4_writeNumber_3 11 rfl rfl)
theorem dX4_writeNumber_82 : decode cX4_writeNumber 82 = .ok (.iadd, 1) := dk_96 (dk_at dksX4_writeNumber_3 12 rfl rfl)
theorem dX4_writeNumber_83 : decode cX4_writeNumber 83 = .ok (.invokevirtual 181, 3) := dk_182 0 181 (dk_at dksX4_writeNumber_3 13 rfl rfl)
theorem dX4_writeNumber_86 : decode cX4_writeNumber 86 = .ok (.lload 5, 2) := dk_22 5 (dk_at dksX4_writeNumber_3 16 rfl rfl)
theorem dX4_writeNumber_88 : decode cX4_writeNumber 88 = .ok (.ldc2_w 154, 3) := dk_20 0 154 (dk_at dksX4_writeNumber_3 18 rfl rfl)
theorem dX4_writeNumber_91 : decode cX4_writeNumber 91 = .ok (.ldiv, 1) := dk_109 (dk_at dksX4_writeNumber_3 21 rfl rfl)
theorem dX4_writeNumber_92 : decode cX4_writeNumber 92 = .ok (.lstore 5, 2) := dk_55 5 (dk_at dksX4_writeNumber_3 22 rfl rfl)
theorem dX4_writeNumber_94 : decode cX4_writeNumber 94 = .ok (.goto (-48), 3) := dk_167 255 208 (dk_at dksX4_writeNumber_4 0 rfl rfl)
theorem dX4_writeNumber_97 : decode cX4_writeNumber 97 = .ok (.return_, 1) := dk_177 (dk_at dksX4_writeNumber_4 3 rfl rfl)
abbrev cX4_writeWord : ByteArray := prog_9_method_38_code
def yX4_writeWord : MethodName := ⟨RX4, "writeWord", "(I)V"⟩
def dkwX4_writeWord_6 : List UInt8 := [16, 7, 21, 5, 104, 123, 20, 0, 122, 127, 136, 182, 0, 181, 132, 5, 1, 167, 255, 231, 177]
abbrev dktX4_writeWord_6 : List UInt8 := dkwX4_writeWord_6 ++ []
def dkwX4_writeWord_5 : List UInt8 := [184, 0, 141, 129, 16, 116, 6, 184, 0, 141, 129, 66, 3, 54, 5, 21, 5, 28, 162, 0, 25, 42, 33]
abbrev dktX4_writeWord_5 : List UInt8 := dkwX4_writeWord_5 ++ dktX4_writeWord_6
def dkwX4_writeWord_4 : List UInt8 := [8, 184, 0, 141, 129, 167, 0, 30, 16, 115, 3, 184, 0, 141, 16, 111, 4, 184, 0, 141, 129, 16, 102, 5]
abbrev dktX4_writeWord_4 : List UInt8 := dkwX4_writeWord_4 ++ dktX4_writeWord_5
def dkwX4_writeWord_3 : List UInt8 := [129, 16, 100, 5, 184, 0, 141, 129, 16, 105, 6, 184, 0, 141, 129, 16, 117, 7, 184, 0, 141, 129, 16, 109]
abbrev dktX4_writeWord_3 : List UInt8 := dkwX4_writeWord_3 ++ dktX4_writeWord_4
def dkwX4_writeWord_2 : List UInt8 := [184, 0, 141, 129, 167, 0, 79, 27, 4, 160, 0, 47, 16, 109, 3, 184, 0, 141, 16, 101, 4, 184, 0, 141]
abbrev dktX4_writeWord_2 : List UInt8 := dkwX4_writeWord_2 ++ dktX4_writeWord_3
def dkwX4_writeWord_1 : List UInt8 := [16, 104, 3, 184, 0, 141, 16, 97, 4, 184, 0, 141, 129, 16, 114, 5, 184, 0, 141, 129, 16, 100, 6]
abbrev dktX4_writeWord_1 : List UInt8 := dkwX4_writeWord_1 ++ dktX4_writeWord_2
def dkwX4_writeWord_0 : List UInt8 := [27, 154, 0, 7, 7, 167, 0, 14, 27, 4, 160, 0, 8, 16, 6, 167, 0, 4, 7, 61, 27, 154, 0, 33]
abbrev dktX4_writeWord_0 : List UInt8 := dkwX4_writeWord_0 ++ dktX4_writeWord_1
theorem dksX4_writeWord_0 : cX4_writeWord.data.toList.drop 0 = dktX4_writeWord_0 := by decide +kernel
theorem dksX4_writeWord_1 : cX4_writeWord.data.toList.drop 24 = dktX4_writeWord_1 := dk_seg dksX4_writeWord_0 24 rfl rfl
theorem dksX4_writeWord_2 : cX4_writeWord.data.toList.drop 47 = dktX4_writeWord_2 := dk_seg dksX4_writeWord_1 23 rfl rfl
theorem dksX4_writeWord_3 : cX4_writeWord.data.toList.drop 71 = dktX4_writeWord_3 := dk_seg dksX4_writeWord_2 24 rfl rfl
theorem dksX4_writeWord_4 : cX4_writeWord.data.toList.drop 95 = dktX4_writeWord_4 := dk_seg dksX4_writeWord_3 24 rfl rfl
theorem dksX4_writeWord_5 : cX4_writeWord.data.toList.drop 119 = dktX4_writeWord_5 := dk_seg dksX4_writeWord_4 24 rfl rfl
theorem dksX4_writeWord_6 : cX4_writeWord.data.toList.drop 142 = dktX4_writeWord_6 := dk_seg dksX4_writeWord_5 23 rfl rfl
theorem dX4_writeWord_0 : decode cX4_writeWord 0 = .ok (.iload_n 1, 1) := dk_27 (dk_at dksX4_writeWord_0 0 rfl rfl)
theorem dX4_writeWord_1 : decode cX4_writeWord 1 = .ok (.ifCond .ne 7, 3) := dk_154 0 7 (dk_at dksX4_writeWord_0 1 rfl rfl)
theorem dX4_writeWord_4 : decode cX4_writeWord 4 = .ok (.iconst 4, 1) := dk_7 (dk_at dksX4_writeWord_0 4 rfl rfl)
theorem dX4_writeWord_5 : decode cX4_writeWord 5 = .ok (.goto 14, 3) := dk_167 0 14 (dk_at dksX4_writeWord_0 5 rfl rfl)
theorem dX4_writeWord_8 : decode cX4_writeWord 8 = .ok (.iload_n 1, 1) := dk_27 (dk_at dksX4_writeWord_0 8 rfl rfl)
theorem dX4_writeWord_9 : decode cX4_writeWord 9 = .ok (.iconst 1, 1) := dk_4 (dk_at dksX4_writeWord_0 9 rfl rfl)
theorem dX4_writeWord_10 : decode cX4_writeWord 10 = .ok (.if_icmp .ne 8, 3) := dk_160 0 8 (dk_at dksX4_writeWord_0 10 rfl rfl)
theorem dX4_writeWord_13 : decode cX4_writeWord 13 = .ok (.bipush 6, 2) := dk_16 6 (dk_at dksX4_writeWord_0 13 rfl rfl)
theorem dX4_writeWord_15 : decode cX4_writeWord 15 = .ok (.goto 4, 3) := dk_167 0 4 (dk_at dksX4_writeWord_0 15 rfl rfl)
theorem dX4_writeWord_18 : decode cX4_writeWord 18 = .ok (.iconst 4, 1) := dk_7 (dk_at dksX4_writeWord_0 18 rfl rfl)
theorem dX4_writeWord_19 : decode cX4_writeWord 19 = .ok (.istore_n 2, 1) := dk_61 (dk_at dksX4_writeWord_0 19 rfl rfl)
theorem dX4_writeWord_20 : decode cX4_writeWord 20 = .ok (.iload_n 1, 1) := dk_27 (dk_at dksX4_writeWord_0 20 rfl rfl)
theorem dX4_writeWord_21 : decode cX4_writeWord 21 = .ok (.ifCond .ne 33, 3) := dk_154 0 33 (dk_at dksX4_writeWord_0 21 rfl rfl)
theorem dX4_writeWord_24 : decode cX4_writeWord 24 = .ok (.bipush 104, 2) := dk_16 104 (dk_at dksX4_writeWord_1 0 rfl rfl)
theorem dX4_writeWord_26 : decode cX4_writeWord 26 = .ok (.iconst 0, 1) := dk_3 (dk_at dksX4_writeWord_1 2 rfl rfl)
theorem dX4_writeWord_27 : decode cX4_writeWord 27 = .ok (.invokestatic 141, 3) := dk_184 0 141 (dk_at dksX4_writeWord_1 3 rfl rfl)
theorem dX4_writeWord_30 : decode cX4_writeWord 30 = .ok (.bipush 97, 2) := dk_16 97 (dk_at dksX4_writeWord_1 6 rfl rfl)
theorem dX4_writeWord_32 : decode cX4_writeWord 32 = .ok (.iconst 1, 1) := dk_4 (dk_at dksX4_writeWord_1 8 rfl rfl)
theorem dX4_writeWord_33 : decode cX4_writeWord 33 = .ok (.invokestatic 141, 3) := dk_184 0 141 (dk_at dksX4_writeWord_1 9 rfl rfl)
theorem dX4_writeWord_36 : decode cX4_writeWord 36 = .ok (.lor, 1) := dk_129 (dk_at dksX4_writeWord_1 12 rfl rfl)
theorem dX4_writeWord_37 : decode cX4_writeWord 37 = .ok (.bipush 114, 2) := dk_16 114 (dk_at dksX4_writeWord_1 13 rfl rfl)
theorem dX4_writeWord_39 : decode cX4_writeWord 39 = .ok (.iconst 2, 1) := dk_5 (dk_at dksX4_writeWord_1 15 rfl rfl)
theorem dX4_writeWord_40 : decode cX4_writeWord 40 = .ok (.invokestatic 141, 3) := dk_184 0 141 (dk_at dksX4_writeWord_1 16 rfl rfl)
theorem dX4_writeWord_43 : decode cX4_writeWord 43 = .ok (.lor, 1) := dk_129 (dk_at dksX4_writeWord_1 19 rfl rfl)
theorem dX4_writeWord_44 : decode cX4_writeWord 44 = .ok (.bipush 100, 2) := dk_16 100 (dk_at dksX4_writeWord_1 20 rfl rfl)
theorem dX4_writeWord_46 : decode cX4_writeWord 46 = .ok (.iconst 3, 1) := dk_6 (dk_at dksX4_writeWord_1 22 rfl rfl)
theorem dX4_writeWord_47 : decode cX4_writeWord 47 = .ok (.invokestatic 141, 3) := dk_184 0 141 (dk_at dksX4_writeWord_2 0 rfl rfl)
theorem dX4_writeWord_50 : decode cX4_writeWord 50 = .ok (.lor, 1) := dk_129 (dk_at dksX4_writeWord_2 3 rfl rfl)
theorem dX4_writeWord_51 : decode cX4_writeWord 51 = .ok (.goto 79, 3) := dk_167 0 79 (dk_at dksX4_writeWord_2 4 rfl rfl)
theorem dX4_writeWord_54 : decode cX4_writeWord 54 = .ok (.iload_n 1, 1) := dk_27 (dk_at dksX4_writeWord_2 7 rfl rfl)
theorem dX4_writeWord_55 : decode cX4_writeWord 55 = .ok (.iconst 1, 1) := dk_4 (dk_at dksX4_writeWord_2 8 rfl rfl)
theorem dX4_writeWord_56 : decode cX4_writeWord 56 = .ok (.if_icmp .ne 47, 3) := dk_160 0 47 (dk_at dksX4_writeWord_2 9 rfl rfl)
theorem dX4_writeWord_59 : decode cX4_writeWord 59 = .ok (.bipush 109, 2) := dk_16 109 (dk_at dksX4_writeWord_2 12 rfl rfl)
theorem dX4_writeWord_61 : decode cX4_writeWord 61 = .ok (.iconst 0, 1) := dk_3 (dk_at dksX4_writeWord_2 14 rfl rfl)
theorem dX4_writeWord_62 : decode cX4_writeWord 62 = .ok (.invokestatic 141, 3) := dk_184 0 141 (dk_at dksX4_writeWord_2 15 rfl rfl)
theorem dX4_writeWord_65 : decode cX4_writeWord 65 = .ok (.bipush 101, 2) := dk_16 101 (dk_at dksX4_writeWord_2 18 rfl rfl)
theorem dX4_writeWord_67 : decode cX4_writeWord 67 = .ok (.iconst 1, 1) := dk_4 (dk_at dksX4_writeWord_2 20 rfl rfl)
theorem dX4_writeWord_68 : decode cX4_writeWord 68 = .ok (.invokestatic 141, 3) := dk_184 0 141 (dk_at dksX4_writeWord_2 21 rfl rfl)
theorem dX4_writeWord_71 : decode cX4_writeWord 71 = .ok (.lor, 1) := dk_129 (dk_at dksX4_writeWord_3 0 rfl rfl)
theorem dX4_writeWord_72 : decode cX4_writeWord 72 = .ok (.bipush 100, 2) := dk_16 100 (dk_at dksX4_writeWord_3 1 rfl rfl)
theorem dX4_writeWord_74 : decode cX4_writeWord 74 = .ok (.iconst 2, 1) := dk_5 (dk_at dksX4_writeWord_3 3 rfl rfl)
theorem dX4_writeWord_75 : decode cX4_writeWord 75 = .ok (.invokestatic 141, 3) := dk_184 0 141 (dk_at dksX4_writeWord_3 4 rfl rfl)
theorem dX4_writeWord_78 : decode cX4_writeWord 78 = .ok (.lor, 1) := dk_129 (dk_at dksX4_writeWord_3 7 rfl rfl)
theorem dX4_writeWord_79 : decode cX4_writeWord 79 = .ok (.bipush 105, 2) := dk_16 105 (dk_at dksX4_writeWord_3 8 rfl rfl)
theorem dX4_writeWord_81 : decode cX4_writeWord 81 = .ok (.iconst 3, 1) := dk_6 (dk_at dksX4_writeWord_3 10 rfl rfl)
theorem dX4_writeWord_82 : decode cX4_writeWord 82 = .ok (.invokestatic 141, 3) := dk_184 0 141 (dk_at dksX4_writeWord_3 11 rfl rfl)
theorem dX4_writeWord_85 : decode cX4_writeWord 85 = .ok (.lor, 1) := dk_129 (dk_at dksX4_writeWord_3 14 rfl rfl)
theorem dX4_writeWord_86 : decode cX4_writeWord 86 = .ok (.bipush 117, 2) := dk_16 117 (dk_at dksX4_writeWord_3 15 rfl rfl)
theorem dX4_writeWord_88 : decode cX4_writeWord 88 = .ok (.iconst 4, 1) := dk_7 (dk_at dksX4_writeWord_3 17 rfl rfl)
theorem dX4_writeWord_89 : decode cX4_writeWord 89 = .ok (.invokestatic 141, 3) := dk_184 0 141 (dk_at dksX4_writeWord_3 18 rfl rfl)
theorem dX4_writeWord_92 : decode cX4_writeWord 92 = .ok (.lor, 1) := dk_129 (dk_at dksX4_writeWord_3 21 rfl rfl)
theorem dX4_writeWord_93 : decode cX4_writeWord 93 = .ok (.bipush 109, 2) := dk_16 109 (dk_at dksX4_writeWord_3 22 rfl rfl)
theorem dX4_writeWord_95 : decode cX4_writeWord 95 = .ok (.iconst 5, 1) := dk_8 (dk_at dksX4_writeWord_4 0 rfl rfl)
theorem dX4_writeWord_96 : decode cX4_writeWord 96 = .ok (.invokestatic 141, 3) := dk_184 0 141 (dk_at dksX4_writeWord_4 1 rfl rfl)
theorem dX4_writeWord_99 : decode cX4_writeWord 99 = .ok (.lor, 1) := dk_129 (dk_at dksX4_writeWord_4 4 rfl rfl)
theorem dX4_writeWord_100 : decode cX4_writeWord 100 = .ok (.goto 30, 3) := dk_167 0 30 (dk_at dksX4_writeWord_4 5 rfl rfl)
theorem dX4_writeWord_103 : decode cX4_writeWord 103 = .ok (.bipush 115, 2) := dk_16 115 (dk_at dksX4_writeWord_4 8 rfl rfl)
theorem dX4_writeWord_105 : decode cX4_writeWord 105 = .ok (.iconst 0, 1) := dk_3 (dk_at dksX4_writeWord_4 10 rfl rfl)
theorem dX4_writeWord_106 : decode cX4_writeWord 106 = .ok (.invokestatic 141, 3) := dk_184 0 141 (dk_at dksX4_writeWord_4 11 rfl rfl)
theorem dX4_writeWord_109 : decode cX4_writeWord 109 = .ok (.bipush 111, 2) := dk_16 111 (dk_at dksX4_writeWord_4 14 rfl rfl)
theorem dX4_writeWord_111 : decode cX4_writeWord 111 = .ok (.iconst 1, 1) := dk_4 (dk_at dksX4_writeWord_4 16 rfl rfl)
theorem dX4_writeWord_112 : decode cX4_writeWord 112 = .ok (.invokestatic 141, 3) := dk_184 0 141 (dk_at dksX4_writeWord_4 17 rfl rfl)
theorem dX4_writeWord_115 : decode cX4_writeWord 115 = .ok (.lor, 1) := dk_129 (dk_at dksX4_writeWord_4 20 rfl rfl)
theorem dX4_writeWord_116 : decode cX4_writeWord 116 = .ok (.bipush 102, 2) := dk_16 102 (dk_at dksX4_writeWord_4 21 rfl rfl)
theorem dX4_writeWord_118 : decode cX4_writeWord 118 = .ok (.iconst 2, 1) := dk_5 (dk_at dksX4_writeWord_4 23 rfl rfl)
theorem dX4_writeWord_119 : decode cX4_writeWord 119 = .ok (.invokestatic 141, 3) := dk_184 0 141 (dk_at dksX4_writeWord_5 0 rfl rfl)
theorem dX4_writeWord_122 : decode cX4_writeWord 122 = .ok (.lor, 1) := dk_129 (dk_at dksX4_writeWord_5 3 rfl rfl)
theorem dX4_writeWord_123 : decode cX4_writeWord 123 = .ok (.bipush 116, 2) := dk_16 116 (dk_at dksX4_writeWord_5 4 rfl rfl)
theorem dX4_writeWord_125 : decode cX4_writeWord 125 = .ok (.iconst 3, 1) := dk_6 (dk_at dksX4_writeWord_5 6 rfl rfl)
theorem dX4_writeWord_126 : decode cX4_writeWord 126 = .ok (.invokestatic 141, 3) := dk_184 0 141 (dk_at dksX4_writeWord_5 7 rfl rfl)
theorem dX4_writeWord_129 : decode cX4_writeWord 129 = .ok (.lor, 1) := dk_129 (dk_at dksX4_writeWord_5 10 rfl rfl)
theorem dX4_writeWord_130 : decode cX4_writeWord 130 = .ok (.lstore_n 3, 1) := dk_66 (dk_at dksX4_writeWord_5 11 rfl rfl)
theorem dX4_writeWord_131 : decode cX4_writeWord 131 = .ok (.iconst 0, 1) := dk_3 (dk_at dksX4_writeWord_5 12 rfl rfl)
theorem dX4_writeWord_132 : decode cX4_writeWord 132 = .ok (.istore 5, 2) := dk_54 5 (dk_at dksX4_writeWord_5 13 rfl rfl)
theorem dX4_writeWord_134 : decode cX4_writeWord 134 = .ok (.iload 5, 2) := dk_21 5 (dk_at dksX4_writeWord_5 15 rfl rfl)
theorem dX4_writeWord_136 : decode cX4_writeWord 136 = .ok (.iload_n 2, 1) := dk_28 (dk_at dksX4_writeWord_5 17 rfl rfl)
theorem dX4_writeWord_137 : decode cX4_writeWord 137 = .ok (.if_icmp .ge 25, 3) := dk_162 0 25 (dk_at dksX4_writeWord_5 18 rfl rfl)
theorem dX4_writeWord_140 : decode cX4_writeWord 140 = .ok (.aload_n 0, 1) := dk_42 (dk_at dksX4_writeWord_5 21 rfl rfl)
theorem dX4_writeWord_141 : decode cX4_writeWord 141 = .ok (.lload_n 3, 1) := dk_33 (dk_at dksX4_writeWord_5 22 rfl rfl)
theorem dX4_writeWord_142 : decode cX4_writeWord 142 = .ok (.bipush 7, 2) := dk_16 7 (dk_at dksX4_writeWord_6 0 rfl rfl)
theorem dX4_writeWord_144 : decode cX4_writeWord 144 = .ok (.iload 5, 2) := dk_21 5 (dk_at dksX4_writeWord_6 2 rfl rfl)
theorem dX4_writeWord_146 : decode cX4_writeWord 146 = .ok (.imul, 1) := dk_104 (dk_at dksX4_writeWord_6 4 rfl rfl)
theorem dX4_writeWord_147 : decode cX4_writeWord 147 = .ok (.lshr, 1) := dk_123 (dk_at dksX4_writeWord_6 5 rfl rfl)
theorem dX4_writeWord_148 : decode cX4_writeWord 148 = .ok (.ldc2_w 122, 3) := dk_20 0 122 (dk_at dksX4_writeWord_6 6 rfl rfl)
theorem dX4_writeWord_151 : decode cX4_writeWord 151 = .ok (.land, 1) := dk_127 (dk_at dksX4_writeWord_6 9 rfl rfl)
theorem dX4_writeWord_152 : decode cX4_writeWord 152 = .ok (.l2i, 1) := dk_136 (dk_at dksX4_writeWord_6 10 rfl rfl)
theorem dX4_writeWord_153 : decode cX4_writeWord 153 = .ok (.invokevirtual 181, 3) := dk_182 0 181 (dk_at dksX4_writeWord_6 11 rfl rfl)
theorem dX4_writeWord_156 : decode cX4_writeWord 156 = .ok (.iinc 5 1, 3) := dk_132 5 1 (dk_at dksX4_writeWord_6 14 rfl rfl)
theorem dX4_writeWord_159 : decode cX4_writeWord 159 = .ok (.goto (-25), 3) := dk_167 255 231 (dk_at dksX4_writeWord_6 17 rfl rfl)
theorem dX4_writeWord_162 : decode cX4_writeWord 162 = .ok (.return_, 1) := dk_177 (dk_at dksX4_writeWord_6 20 rfl rfl)
abbrev cX4_out : ByteArray := prog_9_method_41_code
def yX4_out : MethodName := ⟨RX4, "out", "(I)I"⟩
def dkwX4_out_1 : List UInt8 := [167, 0, 4, 2, 172]
abbrev dktX4_out_1 : List UInt8 := dkwX4_out_1 ++ []
def dkwX4_out_0 : List UInt8 := [27, 133, 9, 42, 180, 0, 178, 4, 100, 133, 184, 0, 48, 153, 0, 12, 42, 180, 0, 39, 27, 46]
abbrev dktX4_out_0 : List UInt8 := dkwX4_out_0 ++ dktX4_out_1
theorem dksX4_out_0 : cX4_out.data.toList.drop 0 = dktX4_out_0 := by decide +kernel
theorem dksX4_out_1 : cX4_out.data.toList.drop 22 = dktX4_out_1 := dk_seg dksX4_out_0 22 rfl rfl
theorem dX4_out_0 : decode cX4_out 0 = .ok (.iload_n 1, 1) := dk_27 (dk_at dksX4_out_0 0 rfl rfl)
theorem dX4_out_1 : decode cX4_out 1 = .ok (.i2l, 1) := dk_133 (dk_at dksX4_out_0 1 rfl rfl)
theorem dX4_out_2 : decode cX4_out 2 = .ok (.lconst 0, 1) := dk_9 (dk_at dksX4_out_0 2 rfl rfl)
theorem dX4_out_3 : decode cX4_out 3 = .ok (.aload_n 0, 1) := dk_42 (dk_at dksX4_out_0 3 rfl rfl)
theorem dX4_out_4 : decode cX4_out 4 = .ok (.getfield 178, 3) := dk_180 0 178 (dk_at dksX4_out_0 4 rfl rfl)
theorem dX4_out_7 : decode cX4_out 7 = .ok (.iconst 1, 1) := dk_4 (dk_at dksX4_out_0 7 rfl rfl)
theorem dX4_out_8 : decode cX4_out 8 = .ok (.isub, 1) := dk_100 (dk_at dksX4_out_0 8 rfl rfl)
theorem dX4_out_9 : decode cX4_out 9 = .ok (.i2l, 1) := dk_133 (dk_at dksX4_out_0 9 rfl rfl)
theorem dX4_out_10 : decode cX4_out 10 = .ok (.invokestatic 48, 3) := dk_184 0 48 (dk_at dksX4_out_0 10 rfl rfl)
theorem dX4_out_13 : decode cX4_out 13 = .ok (.ifCond .eq 12, 3) := dk_153 0 12 (dk_at dksX4_out_0 13 rfl rfl)
theorem dX4_out_16 : decode cX4_out 16 = .ok (.aload_n 0, 1) := dk_42 (dk_at dksX4_out_0 16 rfl rfl)
theorem dX4_out_17 : decode cX4_out 17 = .ok (.getfield 39, 3) := dk_180 0 39 (dk_at dksX4_out_0 17 rfl rfl)
theorem dX4_out_20 : decode cX4_out 20 = .ok (.iload_n 1, 1) := dk_27 (dk_at dksX4_out_0 20 rfl rfl)
theorem dX4_out_21 : decode cX4_out 21 = .ok (.iaload, 1) := dk_46 (dk_at dksX4_out_0 21 rfl rfl)
theorem dX4_out_22 : decode cX4_out 22 = .ok (.goto 4, 3) := dk_167 0 4 (dk_at dksX4_out_1 0 rfl rfl)
theorem dX4_out_25 : decode cX4_out 25 = .ok (.iconst (-1), 1) := dk_2 (dk_at dksX4_out_1 3 rfl rfl)
theorem dX4_out_26 : decode cX4_out 26 = .ok (.ireturn, 1) := dk_172 (dk_at dksX4_out_1 4 rfl rfl)
abbrev cX4_plan : ByteArray := prog_9_method_42_code
def yX4_plan : MethodName := ⟨RX4, "plan", "(I)I"⟩
def dkwX4_plan_2 : List UInt8 := [42, 42, 180, 0, 16, 27, 46, 181, 0, 23, 42, 3, 181, 0, 198, 42, 3, 181, 0, 201, 28, 172]
abbrev dktX4_plan_2 : List UInt8 := dkwX4_plan_2 ++ []
def dkwX4_plan_1 : List UInt8 := [180, 0, 198, 61, 42, 42, 180, 0, 7, 27, 46, 181, 0, 52, 42, 42, 180, 0, 13, 27, 46, 181, 0, 55]
abbrev dktX4_plan_1 : List UInt8 := dkwX4_plan_1 ++ dktX4_plan_2
def dkwX4_plan_0 : List UInt8 := [42, 27, 182, 0, 68, 154, 0, 6, 16, 254, 172, 42, 27, 182, 0, 72, 153, 0, 6, 16, 245, 172, 42]
abbrev dktX4_plan_0 : List UInt8 := dkwX4_plan_0 ++ dktX4_plan_1
theorem dksX4_plan_0 : cX4_plan.data.toList.drop 0 = dktX4_plan_0 := by decide +kernel
theorem dksX4_plan_1 : cX4_plan.data.toList.drop 23 = dktX4_plan_1 := dk_seg dksX4_plan_0 23 rfl rfl
theorem dksX4_plan_2 : cX4_plan.data.toList.drop 47 = dktX4_plan_2 := dk_seg dksX4_plan_1 24 rfl rfl
theorem dX4_plan_0 : decode cX4_plan 0 = .ok (.aload_n 0, 1) := dk_42 (dk_at dksX4_plan_0 0 rfl rfl)
theorem dX4_plan_1 : decode cX4_plan 1 = .ok (.iload_n 1, 1) := dk_27 (dk_at dksX4_plan_0 1 rfl rfl)
theorem dX4_plan_2 : decode cX4_plan 2 = .ok (.invokevirtual 68, 3) := dk_182 0 68 (dk_at dksX4_plan_0 2 rfl rfl)
theorem dX4_plan_5 : decode cX4_plan 5 = .ok (.ifCond .ne 6, 3) := dk_154 0 6 (dk_at dksX4_plan_0 5 rfl rfl)
theorem dX4_plan_8 : decode cX4_plan 8 = .ok (.bipush (-2), 2) := dk_16 254 (dk_at dksX4_plan_0 8 rfl rfl)
theorem dX4_plan_10 : decode cX4_plan 10 = .ok (.ireturn, 1) := dk_172 (dk_at dksX4_plan_0 10 rfl rfl)
theorem dX4_plan_11 : decode cX4_plan 11 = .ok (.aload_n 0, 1) := dk_42 (dk_at dksX4_plan_0 11 rfl rfl)
theorem dX4_plan_12 : decode cX4_plan 12 = .ok (.iload_n 1, 1) := dk_27 (dk_at dksX4_plan_0 12 rfl rfl)
theorem dX4_plan_13 : decode cX4_plan 13 = .ok (.invokevirtual 72, 3) := dk_182 0 72 (dk_at dksX4_plan_0 13 rfl rfl)
theorem dX4_plan_16 : decode cX4_plan 16 = .ok (.ifCond .eq 6, 3) := dk_153 0 6 (dk_at dksX4_plan_0 16 rfl rfl)
theorem dX4_plan_19 : decode cX4_plan 19 = .ok (.bipush (-11), 2) := dk_16 245 (dk_at dksX4_plan_0 19 rfl rfl)
theorem dX4_plan_21 : decode cX4_plan 21 = .ok (.ireturn, 1) := dk_172 (dk_at dksX4_plan_0 21 rfl rfl)
theorem dX4_plan_22 : decode cX4_plan 22 = .ok (.aload_n 0, 1) := dk_42 (dk_at dksX4_plan_0 22 rfl rfl)
theorem dX4_plan_23 : decode cX4_plan 23 = .ok (.getfield 198, 3) := dk_180 0 198 (dk_at dksX4_plan_1 0 rfl rfl)
theorem dX4_plan_26 : decode cX4_plan 26 = .ok (.istore_n 2, 1) := dk_61 (dk_at dksX4_plan_1 3 rfl rfl)
theorem dX4_plan_27 : decode cX4_plan 27 = .ok (.aload_n 0, 1) := dk_42 (dk_at dksX4_plan_1 4 rfl rfl)
theorem dX4_plan_28 : decode cX4_plan 28 = .ok (.aload_n 0, 1) := dk_42 (dk_at dksX4_plan_1 5 rfl rfl)
theorem dX4_plan_29 : decode cX4_plan 29 = .ok (.getfield 7, 3) := dk_180 0 7 (dk_at dksX4_plan_1 6 rfl rfl)
theorem dX4_plan_32 : decode cX4_plan 32 = .ok (.iload_n 1, 1) := dk_27 (dk_at dksX4_plan_1 9 rfl rfl)
theorem dX4_plan_33 : decode cX4_plan 33 = .ok (.iaload, 1) := dk_46 (dk_at dksX4_plan_1 10 rfl rfl)
theorem dX4_plan_34 : decode cX4_plan 34 = .ok (.putfield 52, 3) := dk_181 0 52 (dk_at dksX4_plan_1 11 rfl rfl)
theorem dX4_plan_37 : decode cX4_plan 37 = .ok (.aload_n 0, 1) := dk_42 (dk_at dksX4_plan_1 14 rfl rfl)
theorem dX4_plan_38 : decode cX4_plan 38 = .ok (.aload_n 0, 1) := dk_42 (dk_at dksX4_plan_1 15 rfl rfl)
theorem dX4_plan_39 : decode cX4_plan 39 = .ok (.getfield 13, 3) := dk_180 0 13 (dk_at dksX4_plan_1 16 rfl rfl)
theorem dX4_plan_42 : decode cX4_plan 42 = .ok (.iload_n 1, 1) := dk_27 (dk_at dksX4_plan_1 19 rfl rfl)
theorem dX4_plan_43 : decode cX4_plan 43 = .ok (.iaload, 1) := dk_46 (dk_at dksX4_plan_1 20 rfl rfl)
theorem dX4_plan_44 : decode cX4_plan 44 = .ok (.putfield 55, 3) := dk_181 0 55 (dk_at dksX4_plan_1 21 rfl rfl)
theorem dX4_plan_47 : decode cX4_plan 47 = .ok (.aload_n 0, 1) := dk_42 (dk_at dksX4_plan_2 0 rfl rfl)
theorem dX4_plan_48 : decode cX4_plan 48 = .ok (.aload_n 0, 1) := dk_42 (dk_at dksX4_plan_2 1 rfl rfl)
theorem dX4_plan_49 : decode cX4_plan 49 = .ok (.getfield 16, 3) := dk_180 0 16 (dk_at dksX4_plan_2 2 rfl rfl)
theorem dX4_plan_52 : decode cX4_plan 52 = .ok (.iload_n 1, 1) := dk_27 (dk_at dksX4_plan_2 5 rfl rfl)
theorem dX4_plan_53 : decode cX4_plan 53 = .ok (.iaload, 1) := dk_46 (dk_at dksX4_plan_2 6 rfl rfl)
theorem dX4_plan_54 : decode cX4_plan 54 = .ok (.putfield 23, 3) := dk_181 0 23 (dk_at dksX4_plan_2 7 rfl rfl)
theorem dX4_plan_57 : decode cX4_plan 57 = .ok (.aload_n 0, 1) := dk_42 (dk_at dksX4_plan_2 10 rfl rfl)
theorem dX4_plan_58 : decode cX4_plan 58 = .ok (.iconst 0, 1) := dk_3 (dk_at dksX4_plan_2 11 rfl rfl)
theorem dX4_plan_59 : decode cX4_plan 59 = .ok (.putfield 198, 3) := dk_181 0 198 (dk_at dksX4_plan_2 12 rfl rfl)
theorem dX4_plan_62 : decode cX4_plan 62 = .ok (.aload_n 0, 1) := dk_42 (dk_at dksX4_plan_2 15 rfl rfl)
theorem dX4_plan_63 : decode cX4_plan 63 = .ok (.iconst 0, 1) := dk_3 (dk_at dksX4_plan_2 16 rfl rfl)
theorem dX4_plan_64 : decode cX4_plan 64 = .ok (.putfield 201, 3) := dk_181 0 201 (dk_at dksX4_plan_2 17 rfl rfl)
theorem dX4_plan_67 : decode cX4_plan 67 = .ok (.iload_n 2, 1) := dk_28 (dk_at dksX4_plan_2 20 rfl rfl)
theorem dX4_plan_68 : decode cX4_plan 68 = .ok (.ireturn, 1) := dk_172 (dk_at dksX4_plan_2 21 rfl rfl)
abbrev cX4_rule : ByteArray := prog_9_method_43_code
def yX4_rule : MethodName := ⟨RX4, "rule", "(I)I"⟩
def dkwX4_rule_4 : List UInt8 := [180, 0, 198, 4, 96, 181, 0, 198, 42, 180, 0, 198, 4, 100, 172]
abbrev dktX4_rule_4 : List UInt8 := dkwX4_rule_4 ++ []
def dkwX4_rule_3 : List UInt8 := [27, 104, 28, 96, 47, 80, 132, 2, 1, 167, 255, 222, 42, 180, 0, 30, 42, 180, 0, 198, 3, 79, 42, 89]
abbrev dktX4_rule_3 : List UInt8 := dkwX4_rule_3 ++ dktX4_rule_4
def dkwX4_rule_2 : List UInt8 := [16, 12, 162, 0, 34, 42, 180, 0, 27, 16, 12, 42, 180, 0, 198, 104, 28, 96, 42, 180, 0, 19, 16, 12]
abbrev dktX4_rule_2 : List UInt8 := dkwX4_rule_2 ++ dktX4_rule_3
def dkwX4_rule_1 : List UInt8 := [27, 182, 0, 72, 153, 0, 6, 16, 245, 172, 42, 27, 182, 0, 204, 154, 0, 6, 16, 244, 172, 3, 61, 28]
abbrev dktX4_rule_1 : List UInt8 := dkwX4_rule_1 ++ dktX4_rule_2
def dkwX4_rule_0 : List UInt8 := [42, 27, 182, 0, 68, 154, 0, 6, 16, 254, 172, 42, 180, 0, 198, 16, 12, 160, 0, 6, 16, 252, 172, 42]
abbrev dktX4_rule_0 : List UInt8 := dkwX4_rule_0 ++ dktX4_rule_1
theorem dksX4_rule_0 : cX4_rule.data.toList.drop 0 = dktX4_rule_0 := by decide +kernel
theorem dksX4_rule_1 : cX4_rule.data.toList.drop 24 = dktX4_rule_1 := dk_seg dksX4_rule_0 24 rfl rfl
theorem dksX4_rule_2 : cX4_rule.data.toList.drop 48 = dktX4_rule_2 := dk_seg dksX4_rule_1 24 rfl rfl
theorem dksX4_rule_3 : cX4_rule.data.toList.drop 72 = dktX4_rule_3 := dk_seg dksX4_rule_2 24 rfl rfl
theorem dksX4_rule_4 : cX4_rule.data.toList.drop 96 = dktX4_rule_4 := dk_seg dksX4_rule_3 24 rfl rfl
theorem dX4_rule_0 : decode cX4_rule 0 = .ok (.aload_n 0, 1) := dk_42 (dk_at dksX4_rule_0 0 rfl rfl)
theorem dX4_rule_1 : decode cX4_rule 1 = .ok (.iload_n 1, 1) := dk_27 (dk_at dksX4_rule_0 1 rfl rfl)
theorem dX4_rule_2 : decode cX4_rule 2 = .ok (.invokevirtual 68, 3) := dk_182 0 68 (dk_at dksX4_rule_0 2 rfl rfl)
theorem dX4_rule_5 : decode cX4_rule 5 = .ok (.ifCond .ne 6, 3) := dk_154 0 6 (dk_at dksX4_rule_0 5 rfl rfl)
theorem dX4_rule_8 : decode cX4_rule 8 = .ok (.bipush (-2), 2) := dk_16 254 (dk_at dksX4_rule_0 8 rfl rfl)
theorem dX4_rule_10 : decode cX4_rule 10 = .ok (.ireturn, 1) := dk_172 (dk_at dksX4_rule_0 10 rfl rfl)
theorem dX4_rule_11 : decode cX4_rule 11 = .ok (.aload_n 0, 1) := dk_42 (dk_at dksX4_rule_0 11 rfl rfl)
theorem dX4_rule_12 : decode cX4_rule 12 = .ok (.getfield 198, 3) := dk_180 0 198 (dk_at dksX4_rule_0 12 rfl rfl)
theorem dX4_rule_15 : decode cX4_rule 15 = .ok (.bipush 12, 2) := dk_16 12 (dk_at dksX4_rule_0 15 rfl rfl)
theorem dX4_rule_17 : decode cX4_rule 17 = .ok (.if_icmp .ne 6, 3) := dk_160 0 6 (dk_at dksX4_rule_0 17 rfl rfl)
theorem dX4_rule_20 : decode cX4_rule 20 = .ok (.bipush (-4), 2) := dk_16 252 (dk_at dksX4_rule_0 20 rfl rfl)
theorem dX4_rule_22 : decode cX4_rule 22 = .ok (.ireturn, 1) := dk_172 (dk_at dksX4_rule_0 22 rfl rfl)
theorem dX4_rule_23 : decode cX4_rule 23 = .ok (.aload_n 0, 1) := dk_42 (dk_at dksX4_rule_0 23 rfl rfl)
theorem dX4_rule_24 : decode cX4_rule 24 = .ok (.iload_n 1, 1) := dk_27 (dk_at dksX4_rule_1 0 rfl rfl)
theorem dX4_rule_25 : decode cX4_rule 25 = .ok (.invokevirtual 72, 3) := dk_182 0 72 (dk_at dksX4_rule_1 1 rfl rfl)
theorem dX4_rule_28 : decode cX4_rule 28 = .ok (.ifCond .eq 6, 3) := dk_153 0 6 (dk_at dksX4_rule_1 4 rfl rfl)
theorem dX4_rule_31 : decode cX4_rule 31 = .ok (.bipush (-11), 2) := dk_16 245 (dk_at dksX4_rule_1 7 rfl rfl)
theorem dX4_rule_33 : decode cX4_rule 33 = .ok (.ireturn, 1) := dk_172 (dk_at dksX4_rule_1 9 rfl rfl)
theorem dX4_rule_34 : decode cX4_rule 34 = .ok (.aload_n 0, 1) := dk_42 (dk_at dksX4_rule_1 10 rfl rfl)
theorem dX4_rule_35 : decode cX4_rule 35 = .ok (.iload_n 1, 1) := dk_27 (dk_at dksX4_rule_1 11 rfl rfl)
theorem dX4_rule_36 : decode cX4_rule 36 = .ok (.invokevirtual 204, 3) := dk_182 0 204 (dk_at dksX4_rule_1 12 rfl rfl)
theorem dX4_rule_39 : decode cX4_rule 39 = .ok (.ifCond .ne 6, 3) := dk_154 0 6 (dk_at dksX4_rule_1 15 rfl rfl)
theorem dX4_rule_42 : decode cX4_rule 42 = .ok (.bipush (-12), 2) := dk_16 244 (dk_at dksX4_rule_1 18 rfl rfl)
theorem dX4_rule_44 : decode cX4_rule 44 = .ok (.ireturn, 1) := dk_172 (dk_at dksX4_rule_1 20 rfl rfl)
theorem dX4_rule_45 : decode cX4_rule 45 = .ok (.iconst 0, 1) := dk_3 (dk_at dksX4_rule_1 21 rfl rfl)
theorem dX4_rule_46 : decode cX4_rule 46 = .ok (.istore_n 2, 1) := dk_61 (dk_at dksX4_rule_1 22 rfl rfl)
theorem dX4_rule_47 : decode cX4_rule 47 = .ok (.iload_n 2, 1) := dk_28 (dk_at dksX4_rule_1 23 rfl rfl)
theorem dX4_rule_48 : decode cX4_rule 48 = .ok (.bipush 12, 2) := dk_16 12 (dk_at dksX4_rule_2 0 rfl rfl)
theorem dX4_rule_50 : decode cX4_rule 50 = .ok (.if_icmp .ge 34, 3) := dk_162 0 34 (dk_at dksX4_rule_2 2 rfl rfl)
theorem dX4_rule_53 : decode cX4_rule 53 = .ok (.aload_n 0, 1) := dk_42 (dk_at dksX4_rule_2 5 rfl rfl)
theorem dX4_rule_54 : decode cX4_rule 54 = .ok (.getfield 27, 3) := dk_180 0 27 (dk_at dksX4_rule_2 6 rfl rfl)
theorem dX4_rule_57 : decode cX4_rule 57 = .ok (.bipush 12, 2) := dk_16 12 (dk_at dksX4_rule_2 9 rfl rfl)
theorem dX4_rule_59 : decode cX4_rule 59 = .ok (.aload_n 0, 1) := dk_42 (dk_at dksX4_rule_2 11 rfl rfl)
theorem dX4_rule_60 : decode cX4_rule 60 = .ok (.getfield 198, 3) := dk_180 0 198 (dk_at dksX4_rule_2 12 rfl rfl)
theorem dX4_rule_63 : decode cX4_rule 63 = .ok (.imul, 1) := dk_104 (dk_at dksX4_rule_2 15 rfl rfl)
theorem dX4_rule_64 : decode cX4_rule 64 = .ok (.iload_n 2, 1) := dk_28 (dk_at dksX4_rule_2 16 rfl rfl)
theorem dX4_rule_65 : decode cX4_rule 65 = .ok (.iadd, 1) := dk_96 (dk_at dksX4_rule_2 17 rfl rfl)
theorem dX4_rule_66 : decode cX4_rule 66 = .ok (.aload_n 0, 1) := dk_42 (dk_at dksX4_rule_2 18 rfl rfl)
theorem dX4_rule_67 : decode cX4_rule 67 = .ok (.getfield 19, 3) := dk_180 0 19 (dk_at dksX4_rule_2 19 rfl rfl)
theorem dX4_rule_70 : decode cX4_rule 70 = .ok (.bipush 12, 2) := dk_16 12 (dk_at dksX4_rule_2 22 rfl rfl)
theorem dX4_rule_72 : decode cX4_rule 72 = .ok (.iload_n 1, 1) := dk_27 (dk_at dksX4_rule_3 0 rfl rfl)
theorem dX4_rule_73 : decode cX4_rule 73 = .ok (.imul, 1) := dk_104 (dk_at dksX4_rule_3 1 rfl rfl)
theorem dX4_rule_74 : decode cX4_rule 74 = .ok (.iload_n 2, 1) := dk_28 (dk_at dksX4_rule_3 2 rfl rfl)
theorem dX4_rule_75 : decode cX4_rule 75 = .ok (.iadd, 1) := dk_96 (dk_at dksX4_rule_3 3 rfl rfl)
theorem dX4_rule_76 : decode cX4_rule 76 = .ok (.laload, 1) := dk_47 (dk_at dksX4_rule_3 4 rfl rfl)
theorem dX4_rule_77 : decode cX4_rule 77 = .ok (.lastore, 1) := dk_80 (dk_at dksX4_rule_3 5 rfl rfl)
theorem dX4_rule_78 : decode cX4_rule 78 = .ok (.iinc 2 1, 3) := dk_132 2 1 (dk_at dksX4_rule_3 6 rfl rfl)
theorem dX4_rule_81 : decode cX4_rule 81 = .ok (.goto (-34), 3) := dk_167 255 222 (dk_at dksX4_rule_3 9 rfl rfl)
theorem dX4_rule_84 : decode cX4_rule 84 = .ok (.aload_n 0, 1) := dk_42 (dk_at dksX4_rule_3 12 rfl rfl)
theorem dX4_rule_85 : decode cX4_rule 85 = .ok (.getfield 30, 3) := dk_180 0 30 (dk_at dksX4_rule_3 13 rfl rfl)
theorem dX4_rule_88 : decode cX4_rule 88 = .ok (.aload_n 0, 1) := dk_42 (dk_at dksX4_rule_3 16 rfl rfl)
theorem dX4_rule_89 : decode cX4_rule 89 = .ok (.getfield 198, 3) := dk_180 0 198 (dk_at dksX4_rule_3 17 rfl rfl)
theorem dX4_rule_92 : decode cX4_rule 92 = .ok (.iconst 0, 1) := dk_3 (dk_at dksX4_rule_3 20 rfl rfl)
theorem dX4_rule_93 : decode cX4_rule 93 = .ok (.iastore, 1) := dk_79 (dk_at dksX4_rule_3 21 rfl rfl)
theorem dX4_rule_94 : decode cX4_rule 94 = .ok (.aload_n 0, 1) := dk_42 (dk_at dksX4_rule_3 22 rfl rfl)
theorem dX4_rule_95 : decode cX4_rule 95 = .ok (.dup, 1) := dk_89 (dk_at dksX4_rule_3 23 rfl rfl)
theorem dX4_rule_96 : decode cX4_rule 96 = .ok (.getfield 198, 3) := dk_180 0 198 (dk_at dksX4_rule_4 0 rfl rfl)
theorem dX4_rule_99 : decode cX4_rule 99 = .ok (.iconst 1, 1) := dk_4 (dk_at dksX4_rule_4 3 rfl rfl)
theorem dX4_rule_100 : decode cX4_rule 100 = .ok (.iadd, 1) := dk_96 (dk_at dksX4_rule_4 4 rfl rfl)
theorem dX4_rule_101 : decode cX4_rule 101 = .ok (.putfield 198, 3) := dk_181 0 198 (dk_at dksX4_rule_4 5 rfl rfl)
theorem dX4_rule_104 : decode cX4_rule 104 = .ok (.aload_n 0, 1) := dk_42 (dk_at dksX4_rule_4 8 rfl rfl)
theorem dX4_rule_105 : decode cX4_rule 105 = .ok (.getfield 198, 3) := dk_180 0 198 (dk_at dksX4_rule_4 9 rfl rfl)
theorem dX4_rule_108 : decode cX4_rule 108 = .ok (.iconst 1, 1) := dk_4 (dk_at dksX4_rule_4 12 rfl rfl)
theorem dX4_rule_109 : decode cX4_rule 109 = .ok (.isub, 1) := dk_100 (dk_at dksX4_rule_4 13 rfl rfl)
theorem dX4_rule_110 : decode cX4_rule 110 = .ok (.ireturn, 1) := dk_172 (dk_at dksX4_rule_4 14 rfl rfl)
abbrev cX4_isLikePlan : ByteArray := prog_9_method_6_code
def yX4_isLikePlan : MethodName := ⟨RX4, "isLikePlan", "(I)Z"⟩
def dkwX4_isLikePlan_1 : List UInt8 := [160, 0, 20, 42, 180, 0, 16, 27, 46, 42, 180, 0, 23, 160, 0, 7, 4, 167, 0, 4, 3, 172]
abbrev dktX4_isLikePlan_1 : List UInt8 := dkwX4_isLikePlan_1 ++ []
def dkwX4_isLikePlan_0 : List UInt8 := [42, 180, 0, 7, 27, 46, 42, 180, 0, 52, 160, 0, 33, 42, 180, 0, 13, 27, 46, 42, 180, 0, 55]
abbrev dktX4_isLikePlan_0 : List UInt8 := dkwX4_isLikePlan_0 ++ dktX4_isLikePlan_1
theorem dksX4_isLikePlan_0 : cX4_isLikePlan.data.toList.drop 0 = dktX4_isLikePlan_0 := by decide +kernel
theorem dksX4_isLikePlan_1 : cX4_isLikePlan.data.toList.drop 23 = dktX4_isLikePlan_1 := dk_seg dksX4_isLikePlan_0 23 rfl rfl
theorem dX4_isLikePlan_0 : decode cX4_isLikePlan 0 = .ok (.aload_n 0, 1) := dk_42 (dk_at dksX4_isLikePlan_0 0 rfl rfl)
theorem dX4_isLikePlan_1 : decode cX4_isLikePlan 1 = .ok (.getfield 7, 3) := dk_180 0 7 (dk_at dksX4_isLikePlan_0 1 rfl rfl)
theorem dX4_isLikePlan_4 : decode cX4_isLikePlan 4 = .ok (.iload_n 1, 1) := dk_27 (dk_at dksX4_isLikePlan_0 4 rfl rfl)
theorem dX4_isLikePlan_5 : decode cX4_isLikePlan 5 = .ok (.iaload, 1) := dk_46 (dk_at dksX4_isLikePlan_0 5 rfl rfl)
theorem dX4_isLikePlan_6 : decode cX4_isLikePlan 6 = .ok (.aload_n 0, 1) := dk_42 (dk_at dksX4_isLikePlan_0 6 rfl rfl)
theorem dX4_isLikePlan_7 : decode cX4_isLikePlan 7 = .ok (.getfield 52, 3) := dk_180 0 52 (dk_at dksX4_isLikePlan_0 7 rfl rfl)
theorem dX4_isLikePlan_10 : decode cX4_isLikePlan 10 = .ok (.if_icmp .ne 33, 3) := dk_160 0 33 (dk_at dksX4_isLikePlan_0 10 rfl rfl)
theorem dX4_isLikePlan_13 : decode cX4_isLikePlan 13 = .ok (.aload_n 0, 1) := dk_42 (dk_at dksX4_isLikePlan_0 13 rfl rfl)
theorem dX4_isLikePlan_14 : decode cX4_isLikePlan 14 = .ok (.getfield 13, 3) := dk_180 0 13 (dk_at dksX4_isLikePlan_0 14 rfl rfl)
theorem dX4_isLikePlan_17 : decode cX4_isLikePlan 17 = .ok (.iload_n 1, 1) := dk_27 (dk_at dksX4_isLikePlan_0 17 rfl rfl)
theorem dX4_isLikePlan_18 : decode cX4_isLikePlan 18 = .ok (.iaload, 1) := dk_46 (dk_at dksX4_isLikePlan_0 18 rfl rfl)
theorem dX4_isLikePlan_19 : decode cX4_isLikePlan 19 = .ok (.aload_n 0, 1) := dk_42 (dk_at dksX4_isLikePlan_0 19 rfl rfl)
theorem dX4_isLikePlan_20 : decode cX4_isLikePlan 20 = .ok (.getfield 55, 3) := dk_180 0 55 (dk_at dksX4_isLikePlan_0 20 rfl rfl)
theorem dX4_isLikePlan_23 : decode cX4_isLikePlan 23 = .ok (.if_icmp .ne 20, 3) := dk_160 0 20 (dk_at dksX4_isLikePlan_1 0 rfl rfl)
theorem dX4_isLikePlan_26 : decode cX4_isLikePlan 26 = .ok (.aload_n 0, 1) := dk_42 (dk_at dksX4_isLikePlan_1 3 rfl rfl)
theorem dX4_isLikePlan_27 : decode cX4_isLikePlan 27 = .ok (.getfield 16, 3) := dk_180 0 16 (dk_at dksX4_isLikePlan_1 4 rfl rfl)
theorem dX4_isLikePlan_30 : decode cX4_isLikePlan 30 = .ok (.iload_n 1, 1) := dk_27 (dk_at dksX4_isLikePlan_1 7 rfl rfl)
theorem dX4_isLikePlan_31 : decode cX4_isLikePlan 31 = .ok (.iaload, 1) := dk_46 (dk_at dksX4_isLikePlan_1 8 rfl rfl)
theorem dX4_isLikePlan_32 : decode cX4_isLikePlan 32 = .ok (.aload_n 0, 1) := dk_42 (dk_at dksX4_isLikePlan_1 9 rfl rfl)
theorem dX4_isLikePlan_33 : decode cX4_isLikePlan 33 = .ok (.getfield 23, 3) := dk_180 0 23 (dk_at dksX4_isLikePlan_1 10 rfl rfl)
theorem dX4_isLikePlan_36 : decode cX4_isLikePlan 36 = .ok (.if_icmp .ne 7, 3) := dk_160 0 7 (dk_at dksX4_isLikePlan_1 13 rfl rfl)
theorem dX4_isLikePlan_39 : decode cX4_isLikePlan 39 = .ok (.iconst 1, 1) := dk_4 (dk_at dksX4_isLikePlan_1 16 rfl rfl)
theorem dX4_isLikePlan_40 : decode cX4_isLikePlan 40 = .ok (.goto 4, 3) := dk_167 0 4 (dk_at dksX4_isLikePlan_1 17 rfl rfl)
theorem dX4_isLikePlan_43 : decode cX4_isLikePlan 43 = .ok (.iconst 0, 1) := dk_3 (dk_at dksX4_isLikePlan_1 20 rfl rfl)
theorem dX4_isLikePlan_44 : decode cX4_isLikePlan 44 = .ok (.ireturn, 1) := dk_172 (dk_at dksX4_isLikePlan_1 21 rfl rfl)
abbrev cX4_count : ByteArray := prog_9_method_46_code
def yX4_count : MethodName := ⟨RX4, "count", "(II)I"⟩
def dkwX4_count_2 : List UInt8 := [28, 79, 42, 182, 0, 213, 154, 0, 13, 42, 180, 0, 30, 27, 29, 79, 16, 240, 172, 29, 172]
abbrev dktX4_count_2 : List UInt8 := dkwX4_count_2 ++ []
def dkwX4_count_1 : List UInt8 := [20, 0, 211, 184, 0, 48, 154, 0, 6, 16, 253, 172, 42, 180, 0, 30, 27, 46, 62, 42, 180, 0, 30, 27]
abbrev dktX4_count_1 : List UInt8 := dkwX4_count_1 ++ dktX4_count_2
def dkwX4_count_0 : List UInt8 := [27, 133, 9, 42, 180, 0, 198, 4, 100, 133, 184, 0, 48, 154, 0, 6, 16, 254, 172, 28, 133, 9]
abbrev dktX4_count_0 : List UInt8 := dkwX4_count_0 ++ dktX4_count_1
theorem dksX4_count_0 : cX4_count.data.toList.drop 0 = dktX4_count_0 := by decide +kernel
theorem dksX4_count_1 : cX4_count.data.toList.drop 22 = dktX4_count_1 := dk_seg dksX4_count_0 22 rfl rfl
theorem dksX4_count_2 : cX4_count.data.toList.drop 46 = dktX4_count_2 := dk_seg dksX4_count_1 24 rfl rfl
theorem dX4_count_0 : decode cX4_count 0 = .ok (.iload_n 1, 1) := dk_27 (dk_at dksX4_count_0 0 rfl rfl)
theorem dX4_count_1 : decode cX4_count 1 = .ok (.i2l, 1) := dk_133 (dk_at dksX4_count_0 1 rfl rfl)
theorem dX4_count_2 : decode cX4_count 2 = .ok (.lconst 0, 1) := dk_9 (dk_at dksX4_count_0 2 rfl rfl)
theorem dX4_count_3 : decode cX4_count 3 = .ok (.aload_n 0, 1) := dk_42 (dk_at dksX4_count_0 3 rfl rfl)
theorem dX4_count_4 : decode cX4_count 4 = .ok (.getfield 198, 3) := dk_180 0 198 (dk_at dksX4_count_0 4 rfl rfl)
theorem dX4_count_7 : decode cX4_count 7 = .ok (.iconst 1, 1) := dk_4 (dk_at dksX4_count_0 7 rfl rfl)
theorem dX4_count_8 : decode cX4_count 8 = .ok (.isub, 1) := dk_100 (dk_at dksX4_count_0 8 rfl rfl)
theorem dX4_count_9 : decode cX4_count 9 = .ok (.i2l, 1) := dk_133 (dk_at dksX4_count_0 9 rfl rfl)
theorem dX4_count_10 : decode cX4_count 10 = .ok (.invokestatic 48, 3) := dk_184 0 48 (dk_at dksX4_count_0 10 rfl rfl)
theorem dX4_count_13 : decode cX4_count 13 = .ok (.ifCond .ne 6, 3) := dk_154 0 6 (dk_at dksX4_count_0 13 rfl rfl)
theorem dX4_count_16 : decode cX4_count 16 = .ok (.bipush (-2), 2) := dk_16 254 (dk_at dksX4_count_0 16 rfl rfl)
theorem dX4_count_18 : decode cX4_count 18 = .ok (.ireturn, 1) := dk_172 (dk_at dksX4_count_0 18 rfl rfl)
theorem dX4_count_19 : decode cX4_count 19 = .ok (.iload_n 2, 1) := dk_28 (dk_at dksX4_count_0 19 rfl rfl)
theorem dX4_count_20 : decode cX4_count 20 = .ok (.i2l, 1) := dk_133 (dk_at dksX4_count_0 20 rfl rfl)
theorem dX4_count_21 : decode cX4_count 21 = .ok (.lconst 0, 1) := dk_9 (dk_at dksX4_count_0 21 rfl rfl)
theorem dX4_count_22 : decode cX4_count 22 = .ok (.ldc2_w 211, 3) := dk_20 0 211 (dk_at dksX4_count_1 0 rfl rfl)
theorem dX4_count_25 : decode cX4_count 25 = .ok (.invokestatic 48, 3) := dk_184 0 48 (dk_at dksX4_count_1 3 rfl rfl)
theorem dX4_count_28 : decode cX4_count 28 = .ok (.ifCond .ne 6, 3) := dk_154 0 6 (dk_at dksX4_count_1 6 rfl rfl)
theorem dX4_count_31 : decode cX4_count 31 = .ok (.bipush (-3), 2) := dk_16 253 (dk_at dksX4_count_1 9 rfl rfl)
theorem dX4_count_33 : decode cX4_count 33 = .ok (.ireturn, 1) := dk_172 (dk_at dksX4_count_1 11 rfl rfl)
theorem dX4_count_34 : decode cX4_count 34 = .ok (.aload_n 0, 1) := dk_42 (dk_at dksX4_count_1 12 rfl rfl)
theorem dX4_count_35 : decode cX4_count 35 = .ok (.getfield 30, 3) := dk_180 0 30 (dk_at dksX4_count_1 13 rfl rfl)
theorem dX4_count_38 : decode cX4_count 38 = .ok (.iload_n 1, 1) := dk_27 (dk_at dksX4_count_1 16 rfl rfl)
theorem dX4_count_39 : decode cX4_count 39 = .ok (.iaload, 1) := dk_46 (dk_at dksX4_count_1 17 rfl rfl)
theorem dX4_count_40 : decode cX4_count 40 = .ok (.istore_n 3, 1) := dk_62 (dk_at dksX4_count_1 18 rfl rfl)
theorem dX4_count_41 : decode cX4_count 41 = .ok (.aload_n 0, 1) := dk_42 (dk_at dksX4_count_1 19 rfl rfl)
theorem dX4_count_42 : decode cX4_count 42 = .ok (.getfield 30, 3) := dk_180 0 30 (dk_at dksX4_count_1 20 rfl rfl)
theorem dX4_count_45 : decode cX4_count 45 = .ok (.iload_n 1, 1) := dk_27 (dk_at dksX4_count_1 23 rfl rfl)
theorem dX4_count_46 : decode cX4_count 46 = .ok (.iload_n 2, 1) := dk_28 (dk_at dksX4_count_2 0 rfl rfl)
theorem dX4_count_47 : decode cX4_count 47 = .ok (.iastore, 1) := dk_79 (dk_at dksX4_count_2 1 rfl rfl)
theorem dX4_count_48 : decode cX4_count 48 = .ok (.aload_n 0, 1) := dk_42 (dk_at dksX4_count_2 2 rfl rfl)
theorem dX4_count_49 : decode cX4_count 49 = .ok (.invokevirtual 213, 3) := dk_182 0 213 (dk_at dksX4_count_2 3 rfl rfl)
theorem dX4_count_52 : decode cX4_count 52 = .ok (.ifCond .ne 13, 3) := dk_154 0 13 (dk_at dksX4_count_2 6 rfl rfl)
theorem dX4_count_55 : decode cX4_count 55 = .ok (.aload_n 0, 1) := dk_42 (dk_at dksX4_count_2 9 rfl rfl)
theorem dX4_count_56 : decode cX4_count 56 = .ok (.getfield 30, 3) := dk_180 0 30 (dk_at dksX4_count_2 10 rfl rfl)
theorem dX4_count_59 : decode cX4_count 59 = .ok (.iload_n 1, 1) := dk_27 (dk_at dksX4_count_2 13 rfl rfl)
theorem dX4_count_60 : decode cX4_count 60 = .ok (.iload_n 3, 1) := dk_29 (dk_at dksX4_count_2 14 rfl rfl)
theorem dX4_count_61 : decode cX4_count 61 = .ok (.iastore, 1) := dk_79 (dk_at dksX4_count_2 15 rfl rfl)
theorem dX4_count_62 : decode cX4_count 62 = .ok (.bipush (-16), 2) := dk_16 240 (dk_at dksX4_count_2 16 rfl rfl)
theorem dX4_count_64 : decode cX4_count 64 = .ok (.ireturn, 1) := dk_172 (dk_at dksX4_count_2 18 rfl rfl)
theorem dX4_count_65 : decode cX4_count 65 = .ok (.iload_n 3, 1) := dk_29 (dk_at dksX4_count_2 19 rfl rfl)
theorem dX4_count_66 : decode cX4_count 66 = .ok (.ireturn, 1) := dk_172 (dk_at dksX4_count_2 20 rfl rfl)
abbrev cX4_hasRoom : ByteArray := prog_9_method_45_code
def yX4_hasRoom : MethodName := ⟨RX4, "hasRoom", "()Z"⟩
def dkwX4_hasRoom_5 : List UInt8 := [167, 255, 143, 27, 172]
abbrev dktX4_hasRoom_5 : List UInt8 := dkwX4_hasRoom_5 ++ []
def dkwX4_hasRoom_4 : List UInt8 := [167, 255, 223, 27, 153, 0, 14, 42, 182, 0, 114, 153, 0, 7, 4, 167, 0, 4, 3, 60, 132, 2, 1]
abbrev dktX4_hasRoom_4 : List UInt8 := dkwX4_hasRoom_4 ++ dktX4_hasRoom_5
def dkwX4_hasRoom_3 : List UInt8 := [180, 0, 27, 16, 12, 29, 104, 28, 96, 47, 42, 180, 0, 30, 29, 46, 133, 182, 0, 108, 132, 3, 1]
abbrev dktX4_hasRoom_3 : List UInt8 := dkwX4_hasRoom_3 ++ dktX4_hasRoom_4
def dkwX4_hasRoom_2 : List UInt8 := [3, 60, 132, 3, 1, 167, 255, 222, 42, 182, 0, 105, 3, 62, 29, 42, 180, 0, 198, 162, 0, 31, 42, 42]
abbrev dktX4_hasRoom_2 : List UInt8 := dkwX4_hasRoom_2 ++ dktX4_hasRoom_3
def dkwX4_hasRoom_1 : List UInt8 := [162, 0, 32, 42, 29, 28, 182, 0, 207, 27, 153, 0, 14, 42, 182, 0, 114, 153, 0, 7, 4, 167, 0, 4]
abbrev dktX4_hasRoom_1 : List UInt8 := dkwX4_hasRoom_1 ++ dktX4_hasRoom_2
def dkwX4_hasRoom_0 : List UInt8 := [4, 60, 3, 61, 28, 42, 180, 0, 23, 162, 0, 111, 27, 153, 0, 107, 3, 62, 29, 42, 180, 0, 198]
abbrev dktX4_hasRoom_0 : List UInt8 := dkwX4_hasRoom_0 ++ dktX4_hasRoom_1
theorem dksX4_hasRoom_0 : cX4_hasRoom.data.toList.drop 0 = dktX4_hasRoom_0 := by decide +kernel
theorem dksX4_hasRoom_1 : cX4_hasRoom.data.toList.drop 23 = dktX4_hasRoom_1 := dk_seg dksX4_hasRoom_0 23 rfl rfl
theorem dksX4_hasRoom_2 : cX4_hasRoom.data.toList.drop 47 = dktX4_hasRoom_2 := dk_seg dksX4_hasRoom_1 24 rfl rfl
theorem dksX4_hasRoom_3 : cX4_hasRoom.data.toList.drop 71 = dktX4_hasRoom_3 := dk_seg dksX4_hasRoom_2 24 rfl rfl
theorem dksX4_hasRoom_4 : cX4_hasRoom.data.toList.drop 94 = dktX4_hasRoom_4 := dk_seg dksX4_hasRoom_3 23 rfl rfl
theorem dksX4_hasRoom_5 : cX4_hasRoom.data.toList.drop 117 = dktX4_hasRoom_5 := dk_seg dksX4_hasRoom_4 23 rfl rfl
theorem dX4_hasRoom_0 : decode cX4_hasRoom 0 = .ok (.iconst 1, 1) := dk_4 (dk_at dksX4_hasRoom_0 0 rfl rfl)
theorem dX4_hasRoom_1 : decode cX4_hasRoom 1 = .ok (.istore_n 1, 1) := dk_60 (dk_at dksX4_hasRoom_0 1 rfl rfl)
theorem dX4_hasRoom_2 : decode cX4_hasRoom 2 = .ok (.iconst 0, 1) := dk_3 (dk_at dksX4_hasRoom_0 2 rfl rfl)
theorem dX4_hasRoom_3 : decode cX4_hasRoom 3 = .ok (.istore_n 2, 1) := dk_61 (dk_at dksX4_hasRoom_0 3 rfl rfl)
theorem dX4_hasRoom_4 : decode cX4_hasRoom 4 = .ok (.iload_n 2, 1) := dk_28 (dk_at dksX4_hasRoom_0 4 rfl rfl)
theorem dX4_hasRoom_5 : decode cX4_hasRoom 5 = .ok (.aload_n 0, 1) := dk_42 (dk_at dksX4_hasRoom_0 5 rfl rfl)
theorem dX4_hasRoom_6 : decode cX4_hasRoom 6 = .ok (.getfield 23, 3) := dk_180 0 23 (dk_at dksX4_hasRoom_0 6 rfl rfl)
theorem dX4_hasRoom_9 : decode cX4_hasRoom 9 = .ok (.if_icmp .ge 111, 3) := dk_162 0 111 (dk_at dksX4_hasRoom_0 9 rfl rfl)
theorem dX4_hasRoom_12 : decode cX4_hasRoom 12 = .ok (.iload_n 1, 1) := dk_27 (dk_at dksX4_hasRoom_0 12 rfl rfl)
theorem dX4_hasRoom_13 : decode cX4_hasRoom 13 = .ok (.ifCond .eq 107, 3) := dk_153 0 107 (dk_at dksX4_hasRoom_0 13 rfl rfl)
theorem dX4_hasRoom_16 : decode cX4_hasRoom 16 = .ok (.iconst 0, 1) := dk_3 (dk_at dksX4_hasRoom_0 16 rfl rfl)
theorem dX4_hasRoom_17 : decode cX4_hasRoom 17 = .ok (.istore_n 3, 1) := dk_62 (dk_at dksX4_hasRoom_0 17 rfl rfl)
theorem dX4_hasRoom_18 : decode cX4_hasRoom 18 = .ok (.iload_n 3, 1) := dk_29 (dk_at dksX4_hasRoom_0 18 rfl rfl)
theorem dX4_hasRoom_19 : decode cX4_hasRoom 19 = .ok (.aload_n 0, 1) := dk_42 (dk_at dksX4_hasRoom_0 19 rfl rfl)
theorem dX4_hasRoom_20 : decode cX4_hasRoom 20 = .ok (.getfield 198, 3) := dk_180 0 198 (dk_at dksX4_hasRoom_0 20 rfl rfl)
theorem dX4_hasRoom_23 : decode cX4_hasRoom 23 = .ok (.if_icmp .ge 32, 3) := dk_162 0 32 (dk_at dksX4_hasRoom_1 0 rfl rfl)
theorem dX4_hasRoom_26 : decode cX4_hasRoom 26 = .ok (.aload_n 0, 1) := dk_42 (dk_at dksX4_hasRoom_1 3 rfl rfl)
theorem dX4_hasRoom_27 : decode cX4_hasRoom 27 = .ok (.iload_n 3, 1) := dk_29 (dk_at dksX4_hasRoom_1 4 rfl rfl)
theorem dX4_hasRoom_28 : decode cX4_hasRoom 28 = .ok (.iload_n 2, 1) := dk_28 (dk_at dksX4_hasRoom_1 5 rfl rfl)
theorem dX4_hasRoom_29 : decode cX4_hasRoom 29 = .ok (.invokevirtual 207, 3) := dk_182 0 207 (dk_at dksX4_hasRoom_1 6 rfl rfl)
theorem dX4_hasRoom_32 : decode cX4_hasRoom 32 = .ok (.iload_n 1, 1) := dk_27 (dk_at dksX4_hasRoom_1 9 rfl rfl)
theorem dX4_hasRoom_33 : decode cX4_hasRoom 33 = .ok (.ifCond .eq 14, 3) := dk_153 0 14 (dk_at dksX4_hasRoom_1 10 rfl rfl)
theorem dX4_hasRoom_36 : decode cX4_hasRoom 36 = .ok (.aload_n 0, 1) := dk_42 (dk_at dksX4_hasRoom_1 13 rfl rfl)
theorem dX4_hasRoom_37 : decode cX4_hasRoom 37 = .ok (.invokevirtual 114, 3) := dk_182 0 114 (dk_at dksX4_hasRoom_1 14 rfl rfl)
theorem dX4_hasRoom_40 : decode cX4_hasRoom 40 = .ok (.ifCond .eq 7, 3) := dk_153 0 7 (dk_at dksX4_hasRoom_1 17 rfl rfl)
theorem dX4_hasRoom_43 : decode cX4_hasRoom 43 = .ok (.iconst 1, 1) := dk_4 (dk_at dksX4_hasRoom_1 20 rfl rfl)
theorem dX4_hasRoom_44 : decode cX4_hasRoom 44 = .ok (.goto 4, 3) := dk_167 0 4 (dk_at dksX4_hasRoom_1 21 rfl rfl)
theorem dX4_hasRoom_47 : decode cX4_hasRoom 47 = .ok (.iconst 0, 1) := dk_3 (dk_at dksX4_hasRoom_2 0 rfl rfl)
theorem dX4_hasRoom_48 : decode cX4_hasRoom 48 = .ok (.istore_n 1, 1) := dk_60 (dk_at dksX4_hasRoom_2 1 rfl rfl)
theorem dX4_hasRoom_49 : decode cX4_hasRoom 49 = .ok (.iinc 3 1, 3) := dk_132 3 1 (dk_at dksX4_hasRoom_2 2 rfl rfl)
theorem dX4_hasRoom_52 : decode cX4_hasRoom 52 = .ok (.goto (-34), 3) := dk_167 255 222 (dk_at dksX4_hasRoom_2 5 rfl rfl)
theorem dX4_hasRoom_55 : decode cX4_hasRoom 55 = .ok (.aload_n 0, 1) := dk_42 (dk_at dksX4_hasRoom_2 8 rfl rfl)
theorem dX4_hasRoom_56 : decode cX4_hasRoom 56 = .ok (.invokevirtual 105, 3) := dk_182 0 105 (dk_at dksX4_hasRoom_2 9 rfl rfl)
theorem dX4_hasRoom_59 : decode cX4_hasRoom 59 = .ok (.iconst 0, 1) := dk_3 (dk_at dksX4_hasRoom_2 12 rfl rfl)
theorem dX4_hasRoom_60 : decode cX4_hasRoom 60 = .ok (.istore_n 3, 1) := dk_62 (dk_at dksX4_hasRoom_2 13 rfl rfl)
theorem dX4_hasRoom_61 : decode cX4_hasRoom 61 = .ok (.iload_n 3, 1) := dk_29 (dk_at dksX4_hasRoom_2 14 rfl rfl)
theorem dX4_hasRoom_62 : decode cX4_hasRoom 62 = .ok (.aload_n 0, 1) := dk_42 (dk_at dksX4_hasRoom_2 15 rfl rfl)
theorem dX4_hasRoom_63 : decode cX4_hasRoom 63 = .ok (.getfield 198, 3) := dk_180 0 198 (dk_at dksX4_hasRoom_2 16 rfl rfl)
theorem dX4_hasRoom_66 : decode cX4_hasRoom 66 = .ok (.if_icmp .ge 31, 3) := dk_162 0 31 (dk_at dksX4_hasRoom_2 19 rfl rfl)
theorem dX4_hasRoom_69 : decode cX4_hasRoom 69 = .ok (.aload_n 0, 1) := dk_42 (dk_at dksX4_hasRoom_2 22 rfl rfl)
theorem dX4_hasRoom_70 : decode cX4_hasRoom 70 = .ok (.aload_n 0, 1) := dk_42 (dk_at dksX4_hasRoom_2 23 rfl rfl)
theorem dX4_hasRoom_71 : decode cX4_hasRoom 71 = .ok (.getfield 27, 3) := dk_180 0 27 (dk_at dksX4_hasRoom_3 0 rfl rfl)
theorem dX4_hasRoom_74 : decode cX4_hasRoom 74 = .ok (.bipush 12, 2) := dk_16 12 (dk_at dksX4_hasRoom_3 3 rfl rfl)
theorem dX4_hasRoom_76 : decode cX4_hasRoom 76 = .ok (.iload_n 3, 1) := dk_29 (dk_at dksX4_hasRoom_3 5 rfl rfl)
theorem dX4_hasRoom_77 : decode cX4_hasRoom 77 = .ok (.imul, 1) := dk_104 (dk_at dksX4_hasRoom_3 6 rfl rfl)
theorem dX4_hasRoom_78 : decode cX4_hasRoom 78 = .ok (.iload_n 2, 1) := dk_28 (dk_at dksX4_hasRoom_3 7 rfl rfl)
theorem dX4_hasRoom_79 : decode cX4_hasRoom 79 = .ok (.iadd, 1) := dk_96 (dk_at dksX4_hasRoom_3 8 rfl rfl)
theorem dX4_hasRoom_80 : decode cX4_hasRoom 80 = .ok (.laload, 1) := dk_47 (dk_at dksX4_hasRoom_3 9 rfl rfl)
theorem dX4_hasRoom_81 : decode cX4_hasRoom 81 = .ok (.aload_n 0, 1) := dk_42 (dk_at dksX4_hasRoom_3 10 rfl rfl)
theorem dX4_hasRoom_82 : decode cX4_hasRoom 82 = .ok (.getfield 30, 3) := dk_180 0 30 (dk_at dksX4_hasRoom_3 11 rfl rfl)
theorem dX4_hasRoom_85 : decode cX4_hasRoom 85 = .ok (.iload_n 3, 1) := dk_29 (dk_at dksX4_hasRoom_3 14 rfl rfl)
theorem dX4_hasRoom_86 : decode cX4_hasRoom 86 = .ok (.iaload, 1) := dk_46 (dk_at dksX4_hasRoom_3 15 rfl rfl)
theorem dX4_hasRoom_87 : decode cX4_hasRoom 87 = .ok (.i2l, 1) := dk_133 (dk_at dksX4_hasRoom_3 16 rfl rfl)
theorem dX4_hasRoom_88 : decode cX4_hasRoom 88 = .ok (.invokevirtual 108, 3) := dk_182 0 108 (dk_at dksX4_hasRoom_3 17 rfl rfl)
theorem dX4_hasRoom_91 : decode cX4_hasRoom 91 = .ok (.iinc 3 1, 3) := dk_132 3 1 (dk_at dksX4_hasRoom_3 20 rfl rfl)
theorem dX4_hasRoom_94 : decode cX4_hasRoom 94 = .ok (.goto (-33), 3) := dk_167 255 223 (dk_at dksX4_hasRoom_4 0 rfl rfl)
theorem dX4_hasRoom_97 : decode cX4_hasRoom 97 = .ok (.iload_n 1, 1) := dk_27 (dk_at dksX4_hasRoom_4 3 rfl rfl)
theorem dX4_hasRoom_98 : decode cX4_hasRoom 98 = .ok (.ifCond .eq 14, 3) := dk_153 0 14 (dk_at dksX4_hasRoom_4 4 rfl rfl)
theorem dX4_hasRoom_101 : decode cX4_hasRoom 101 = .ok (.aload_n 0, 1) := dk_42 (dk_at dksX4_hasRoom_4 7 rfl rfl)
theorem dX4_hasRoom_102 : decode cX4_hasRoom 102 = .ok (.invokevirtual 114, 3) := dk_182 0 114 (dk_at dksX4_hasRoom_4 8 rfl rfl)
theorem dX4_hasRoom_105 : decode cX4_hasRoom 105 = .ok (.ifCond .eq 7, 3) := dk_153 0 7 (dk_at dksX4_hasRoom_4 11 rfl rfl)
theorem dX4_hasRoom_108 : decode cX4_hasRoom 108 = .ok (.iconst 1, 1) := dk_4 (dk_at dksX4_hasRoom_4 14 rfl rfl)
theorem dX4_hasRoom_109 : decode cX4_hasRoom 109 = .ok (.goto 4, 3) := dk_167 0 4 (dk_at dksX4_hasRoom_4 15 rfl rfl)
theorem dX4_hasRoom_112 : decode cX4_hasRoom 112 = .ok (.iconst 0, 1) := dk_3 (dk_at dksX4_hasRoom_4 18 rfl rfl)
theorem dX4_hasRoom_113 : decode cX4_hasRoom 113 = .ok (.istore_n 1, 1) := dk_60 (dk_at dksX4_hasRoom_4 19 rfl rfl)
theorem dX4_hasRoom_114 : decode cX4_hasRoom 114 = .ok (.iinc 2 1, 3) := dk_132 2 1 (dk_at dksX4_hasRoom_4 20 rfl rfl)
theorem dX4_hasRoom_117 : decode cX4_hasRoom 117 = .ok (.goto (-113), 3) := dk_167 255 143 (dk_at dksX4_hasRoom_5 0 rfl rfl)
theorem dX4_hasRoom_120 : decode cX4_hasRoom 120 = .ok (.iload_n 1, 1) := dk_27 (dk_at dksX4_hasRoom_5 3 rfl rfl)
theorem dX4_hasRoom_121 : decode cX4_hasRoom 121 = .ok (.ireturn, 1) := dk_172 (dk_at dksX4_hasRoom_5 4 rfl rfl)
abbrev cX4_layPart : ByteArray := prog_9_method_44_code
def yX4_layPart : MethodName := ⟨RX4, "layPart", "(II)V"⟩
def dkwX4_layPart_1 : List UInt8 := [182, 0, 108, 177]
abbrev dktX4_layPart_1 : List UInt8 := dkwX4_layPart_1 ++ []
def dkwX4_layPart_0 : List UInt8 := [42, 182, 0, 105, 42, 42, 180, 0, 27, 16, 12, 27, 104, 28, 96, 47, 42, 180, 0, 30, 27, 46, 133]
abbrev dktX4_layPart_0 : List UInt8 := dkwX4_layPart_0 ++ dktX4_layPart_1
theorem dksX4_layPart_0 : cX4_layPart.data.toList.drop 0 = dktX4_layPart_0 := by decide +kernel
theorem dksX4_layPart_1 : cX4_layPart.data.toList.drop 23 = dktX4_layPart_1 := dk_seg dksX4_layPart_0 23 rfl rfl
theorem dX4_layPart_0 : decode cX4_layPart 0 = .ok (.aload_n 0, 1) := dk_42 (dk_at dksX4_layPart_0 0 rfl rfl)
theorem dX4_layPart_1 : decode cX4_layPart 1 = .ok (.invokevirtual 105, 3) := dk_182 0 105 (dk_at dksX4_layPart_0 1 rfl rfl)
theorem dX4_layPart_4 : decode cX4_layPart 4 = .ok (.aload_n 0, 1) := dk_42 (dk_at dksX4_layPart_0 4 rfl rfl)
theorem dX4_layPart_5 : decode cX4_layPart 5 = .ok (.aload_n 0, 1) := dk_42 (dk_at dksX4_layPart_0 5 rfl rfl)
theorem dX4_layPart_6 : decode cX4_layPart 6 = .ok (.getfield 27, 3) := dk_180 0 27 (dk_at dksX4_layPart_0 6 rfl rfl)
theorem dX4_layPart_9 : decode cX4_layPart 9 = .ok (.bipush 12, 2) := dk_16 12 (dk_at dksX4_layPart_0 9 rfl rfl)
theorem dX4_layPart_11 : decode cX4_layPart 11 = .ok (.iload_n 1, 1) := dk_27 (dk_at dksX4_layPart_0 11 rfl rfl)
theorem dX4_layPart_12 : decode cX4_layPart 12 = .ok (.imul, 1) := dk_104 (dk_at dksX4_layPart_0 12 rfl rfl)
theorem dX4_layPart_13 : decode cX4_layPart 13 = .ok (.iload_n 2, 1) := dk_28 (dk_at dksX4_layPart_0 13 rfl rfl)
theorem dX4_layPart_14 : decode cX4_layPart 14 = .ok (.iadd, 1) := dk_96 (dk_at dksX4_layPart_0 14 rfl rfl)
theorem dX4_layPart_15 : decode cX4_layPart 15 = .ok (.laload, 1) := dk_47 (dk_at dksX4_layPart_0 15 rfl rfl)
theorem dX4_layPart_16 : decode cX4_layPart 16 = .ok (.aload_n 0, 1) := dk_42 (dk_at dksX4_layPart_0 16 rfl rfl)
theorem dX4_layPart_17 : decode cX4_layPart 17 = .ok (.getfield 30, 3) := dk_180 0 30 (dk_at dksX4_layPart_0 17 rfl rfl)
theorem dX4_layPart_20 : decode cX4_layPart 20 = .ok (.iload_n 1, 1) := dk_27 (dk_at dksX4_layPart_0 20 rfl rfl)
theorem dX4_layPart_21 : decode cX4_layPart 21 = .ok (.iaload, 1) := dk_46 (dk_at dksX4_layPart_0 21 rfl rfl)
theorem dX4_layPart_22 : decode cX4_layPart 22 = .ok (.i2l, 1) := dk_133 (dk_at dksX4_layPart_0 22 rfl rfl)
theorem dX4_layPart_23 : decode cX4_layPart 23 = .ok (.invokevirtual 108, 3) := dk_182 0 108 (dk_at dksX4_layPart_1 0 rfl rfl)
theorem dX4_layPart_26 : decode cX4_layPart 26 = .ok (.return_, 1) := dk_177 (dk_at dksX4_layPart_1 3 rfl rfl)
abbrev cX4_weight : ByteArray := prog_9_method_47_code
def yX4_weight : MethodName := ⟨RX4, "weight", "(II)I"⟩
def dkwX4_weight_6 : List UInt8 := [172]
abbrev dktX4_weight_6 : List UInt8 := dkwX4_weight_6 ++ []
def dkwX4_weight_5 : List UInt8 := [180, 0, 27, 16, 12, 27, 104, 29, 96, 42, 180, 0, 42, 29, 47, 80, 132, 3, 1, 167, 255, 230, 16, 240]
abbrev dktX4_weight_5 : List UInt8 := dkwX4_weight_5 ++ dktX4_weight_6
def dkwX4_weight_4 : List UInt8 := [132, 3, 1, 167, 255, 208, 42, 182, 0, 213, 153, 0, 5, 4, 172, 3, 62, 29, 16, 12, 162, 0, 26, 42]
abbrev dktX4_weight_4 : List UInt8 := dkwX4_weight_4 ++ dktX4_weight_5
def dkwX4_weight_3 : List UInt8 := [47, 80, 42, 180, 0, 27, 16, 12, 27, 104, 29, 96, 42, 180, 0, 19, 16, 12, 28, 104, 29, 96, 47, 80]
abbrev dktX4_weight_3 : List UInt8 := dkwX4_weight_3 ++ dktX4_weight_4
def dkwX4_weight_2 : List UInt8 := [172, 3, 62, 29, 16, 12, 162, 0, 48, 42, 180, 0, 42, 29, 42, 180, 0, 27, 16, 12, 27, 104, 29, 96]
abbrev dktX4_weight_2 : List UInt8 := dkwX4_weight_2 ++ dktX4_weight_3
def dkwX4_weight_1 : List UInt8 := [16, 254, 172, 42, 28, 182, 0, 72, 153, 0, 6, 16, 245, 172, 42, 28, 182, 0, 204, 154, 0, 6, 16, 244]
abbrev dktX4_weight_1 : List UInt8 := dkwX4_weight_1 ++ dktX4_weight_2
def dkwX4_weight_0 : List UInt8 := [27, 133, 9, 42, 180, 0, 198, 4, 100, 133, 184, 0, 48, 153, 0, 11, 42, 28, 182, 0, 68, 154, 0, 6]
abbrev dktX4_weight_0 : List UInt8 := dkwX4_weight_0 ++ dktX4_weight_1
theorem dksX4_weight_0 : cX4_weight.data.toList.drop 0 = dktX4_weight_0 := by decide +kernel
theorem dksX4_weight_1 : cX4_weight.data.toList.drop 24 = dktX4_weight_1 := dk_seg dksX4_weight_0 24 rfl rfl
theorem dksX4_weight_2 : cX4_weight.data.toList.drop 48 = dktX4_weight_2 := dk_seg dksX4_weight_1 24 rfl rfl
theorem dksX4_weight_3 : cX4_weight.data.toList.drop 72 = dktX4_weight_3 := dk_seg dksX4_weight_2 24 rfl rfl
theorem dksX4_weight_4 : cX4_weight.data.toList.drop 96 = dktX4_weight_4 := dk_seg dksX4_weight_3 24 rfl rfl
theorem dksX4_weight_5 : cX4_weight.data.toList.drop 120 = dktX4_weight_5 := dk_seg dksX4_weight_4 24 rfl rfl
theorem dksX4_weight_6 : cX4_weight.data.toList.drop 144 = dktX4_weight_6 := dk_seg dksX4_weight_5 24 rfl rfl
theorem dX4_weight_0 : decode cX4_weight 0 = .ok (.iload_n 1, 1) := dk_27 (dk_at dksX4_weight_0 0 rfl rfl)
theorem dX4_weight_1 : decode cX4_weight 1 = .ok (.i2l, 1) := dk_133 (dk_at dksX4_weight_0 1 rfl rfl)
theorem dX4_weight_2 : decode cX4_weight 2 = .ok (.lconst 0, 1) := dk_9 (dk_at dksX4_weight_0 2 rfl rfl)
theorem dX4_weight_3 : decode cX4_weight 3 = .ok (.aload_n 0, 1) := dk_42 (dk_at dksX4_weight_0 3 rfl rfl)
theorem dX4_weight_4 : decode cX4_weight 4 = .ok (.getfield 198, 3) := dk_180 0 198 (dk_at dksX4_weight_0 4 rfl rfl)
theorem dX4_weight_7 : decode cX4_weight 7 = .ok (.iconst 1, 1) := dk_4 (dk_at dksX4_weight_0 7 rfl rfl)
theorem dX4_weight_8 : decode cX4_weight 8 = .ok (.isub, 1) := dk_100 (dk_at dksX4_weight_0 8 rfl rfl)
theorem dX4_weight_9 : decode cX4_weight 9 = .ok (.i2l, 1) := dk_133 (dk_at dksX4_weight_0 9 rfl rfl)
theorem dX4_weight_10 : decode cX4_weight 10 = .ok (.invokestatic 48, 3) := dk_184 0 48 (dk_at dksX4_weight_0 10 rfl rfl)
theorem dX4_weight_13 : decode cX4_weight 13 = .ok (.ifCond .eq 11, 3) := dk_153 0 11 (dk_at dksX4_weight_0 13 rfl rfl)
theorem dX4_weight_16 : decode cX4_weight 16 = .ok (.aload_n 0, 1) := dk_42 (dk_at dksX4_weight_0 16 rfl rfl)
theorem dX4_weight_17 : decode cX4_weight 17 = .ok (.iload_n 2, 1) := dk_28 (dk_at dksX4_weight_0 17 rfl rfl)
theorem dX4_weight_18 : decode cX4_weight 18 = .ok (.invokevirtual 68, 3) := dk_182 0 68 (dk_at dksX4_weight_0 18 rfl rfl)
theorem dX4_weight_21 : decode cX4_weight 21 = .ok (.ifCond .ne 6, 3) := dk_154 0 6 (dk_at dksX4_weight_0 21 rfl rfl)
theorem dX4_weight_24 : decode cX4_weight 24 = .ok (.bipush (-2), 2) := dk_16 254 (dk_at dksX4_weight_1 0 rfl rfl)
theorem dX4_weight_26 : decode cX4_weight 26 = .ok (.ireturn, 1) := dk_172 (dk_at dksX4_weight_1 2 rfl rfl)
theorem dX4_weight_27 : decode cX4_weight 27 = .ok (.aload_n 0, 1) := dk_42 (dk_at dksX4_weight_1 3 rfl rfl)
theorem dX4_weight_28 : decode cX4_weight 28 = .ok (.iload_n 2, 1) := dk_28 (dk_at dksX4_weight_1 4 rfl rfl)
theorem dX4_weight_29 : decode cX4_weight 29 = .ok (.invokevirtual 72, 3) := dk_182 0 72 (dk_at dksX4_weight_1 5 rfl rfl)
theorem dX4_weight_32 : decode cX4_weight 32 = .ok (.ifCond .eq 6, 3) := dk_153 0 6 (dk_at dksX4_weight_1 8 rfl rfl)
theorem dX4_weight_35 : decode cX4_weight 35 = .ok (.bipush (-11), 2) := dk_16 245 (dk_at dksX4_weight_1 11 rfl rfl)
theorem dX4_weight_37 : decode cX4_weight 37 = .ok (.ireturn, 1) := dk_172 (dk_at dksX4_weight_1 13 rfl rfl)
theorem dX4_weight_38 : decode cX4_weight 38 = .ok (.aload_n 0, 1) := dk_42 (dk_at dksX4_weight_1 14 rfl rfl)
theorem dX4_weight_39 : decode cX4_weight 39 = .ok (.iload_n 2, 1) := dk_28 (dk_at dksX4_weight_1 15 rfl rfl)
theorem dX4_weight_40 : decode cX4_weight 40 = .ok (.invokevirtual 204, 3) := dk_182 0 204 (dk_at dksX4_weight_1 16 rfl rfl)
theorem dX4_weight_43 : decode cX4_weight 43 = .ok (.ifCond .ne 6, 3) := dk_154 0 6 (dk_at dksX4_weight_1 19 rfl rfl)
theorem dX4_weight_46 : decode cX4_weight 46 = .ok (.bipush (-12), 2) := dk_16 244 (dk_at dksX4_weight_1 22 rfl rfl)
theorem dX4_weight_48 : decode cX4_weight 48 = .ok (.ireturn, 1) := dk_172 (dk_at dksX4_weight_2 0 rfl rfl)
theorem dX4_weight_49 : decode cX4_weight 49 = .ok (.iconst 0, 1) := dk_3 (dk_at dksX4_weight_2 1 rfl rfl)
theorem dX4_weight_50 : decode cX4_weight 50 = .ok (.istore_n 3, 1) := dk_62 (dk_at dksX4_weight_2 2 rfl rfl)
theorem dX4_weight_51 : decode cX4_weight 51 = .ok (.iload_n 3, 1) := dk_29 (dk_at dksX4_weight_2 3 rfl rfl)
theorem dX4_weight_52 : decode cX4_weight 52 = .ok (.bipush 12, 2) := dk_16 12 (dk_at dksX4_weight_2 4 rfl rfl)
theorem dX4_weight_54 : decode cX4_weight 54 = .ok (.if_icmp .ge 48, 3) := dk_162 0 48 (dk_at dksX4_weight_2 6 rfl rfl)
theorem dX4_weight_57 : decode cX4_weight 57 = .ok (.aload_n 0, 1) := dk_42 (dk_at dksX4_weight_2 9 rfl rfl)
theorem dX4_weight_58 : decode cX4_weight 58 = .ok (.getfield 42, 3) := dk_180 0 42 (dk_at dksX4_weight_2 10 rfl rfl)
theorem dX4_weight_61 : decode cX4_weight 61 = .ok (.iload_n 3, 1) := dk_29 (dk_at dksX4_weight_2 13 rfl rfl)
theorem dX4_weight_62 : decode cX4_weight 62 = .ok (.aload_n 0, 1) := dk_42 (dk_at dksX4_weight_2 14 rfl rfl)
theorem dX4_weight_63 : decode cX4_weight 63 = .ok (.getfield 27, 3) := dk_180 0 27 (dk_at dksX4_weight_2 15 rfl rfl)
theorem dX4_weight_66 : decode cX4_weight 66 = .ok (.bipush 12, 2) := dk_16 12 (dk_at dksX4_weight_2 18 rfl rfl)
theorem dX4_weight_68 : decode cX4_weight 68 = .ok (.iload_n 1, 1) := dk_27 (dk_at dksX4_weight_2 20 rfl rfl)
theorem dX4_weight_69 : decode cX4_weight 69 = .ok (.imul, 1) := dk_104 (dk_at dksX4_weight_2 21 rfl rfl)
theorem dX4_weight_70 : decode cX4_weight 70 = .ok (.iload_n 3, 1) := dk_29 (dk_at dksX4_weight_2 22 rfl rfl)
theorem dX4_weight_71 : decode cX4_weight 71 = .ok (.iadd, 1) := dk_96 (dk_at dksX4_weight_2 23 rfl rfl)
theorem dX4_weight_72 : decode cX4_weight 72 = .ok (.laload, 1) := dk_47 (dk_at dksX4_weight_3 0 rfl rfl)
theorem dX4_weight_73 : decode cX4_weight 73 = .ok (.lastore, 1) := dk_80 (dk_at dksX4_weight_3 1 rfl rfl)
theorem dX4_weight_74 : decode cX4_weight 74 = .ok (.aload_n 0, 1) := dk_42 (dk_at dksX4_weight_3 2 rfl rfl)
theorem dX4_weight_75 : decode cX4_weight 75 = .ok (.getfield 27, 3) := dk_180 0 27 (dk_at dksX4_weight_3 3 rfl rfl)
theorem dX4_weight_78 : decode cX4_weight 78 = .ok (.bipush 12, 2) := dk_16 12 (dk_at dksX4_weight_3 6 rfl rfl)
theorem dX4_weight_80 : decode cX4_weight 80 = .ok (.iload_n 1, 1) := dk_27 (dk_at dksX4_weight_3 8 rfl rfl)
theorem dX4_weight_81 : decode cX4_weight 81 = .ok (.imul, 1) := dk_104 (dk_at dksX4_weight_3 9 rfl rfl)
theorem dX4_weight_82 : decode cX4_weight 82 = .ok (.iload_n 3, 1) := dk_29 (dk_at dksX4_weight_3 10 rfl rfl)
theorem dX4_weight_83 : decode cX4_weight 83 = .ok (.iadd, 1) := dk_96 (dk_at dksX4_weight_3 11 rfl rfl)
theorem dX4_weight_84 : decode cX4_weight 84 = .ok (.aload_n 0, 1) := dk_42 (dk_at dksX4_weight_3 12 rfl rfl)
theorem dX4_weight_85 : decode cX4_weight 85 = .ok (.getfield 19, 3) := dk_180 0 19 (dk_at dksX4_weight_3 13 rfl rfl)
theorem dX4_weight_88 : decode cX4_weight 88 = .ok (.bipush 12, 2) := dk_16 12 (dk_at dksX4_weight_3 16 rfl rfl)
theorem dX4_weight_90 : decode cX4_weight 90 = .ok (.iload_n 2, 1) := dk_28 (dk_at dksX4_weight_3 18 rfl rfl)
theorem dX4_weight_91 : decode cX4_weight 91 = .ok (.imul, 1) := dk_104 (dk_at dksX4_weight_3 19 rfl rfl)
theorem dX4_weight_92 : decode cX4_weight 92 = .ok (.iload_n 3, 1) := dk_29 (dk_at dksX4_weight_3 20 rfl rfl)
theorem dX4_weight_93 : decode cX4_weight 93 = .ok (.iadd, 1) := dk_96 (dk_at dksX4_weight_3 21 rfl rfl)
theorem dX4_weight_94 : decode cX4_weight 94 = .ok (.laload, 1) := dk_47 (dk_at dksX4_weight_3 22 rfl rfl)
theorem dX4_weight_95 : decode cX4_weight 95 = .ok (.lastore, 1) := dk_80 (dk_at dksX4_weight_3 23 rfl rfl)
theorem dX4_weight_96 : decode cX4_weight 96 = .ok (.iinc 3 1, 3) := dk_132 3 1 (dk_at dksX4_weight_4 0 rfl rfl)
theorem dX4_weight_99 : decode cX4_weight 99 = .ok (.goto (-48), 3) := dk_167 255 208 (dk_at dksX4_weight_4 3 rfl rfl)
theorem dX4_weight_102 : decode cX4_weight 102 = .ok (.aload_n 0, 1) := dk_42 (dk_at dksX4_weight_4 6 rfl rfl)
theorem dX4_weight_103 : decode cX4_weight 103 = .ok (.invokevirtual 213, 3) := dk_182 0 213 (dk_at dksX4_weight_4 7 rfl rfl)
theorem dX4_weight_106 : decode cX4_weight 106 = .ok (.ifCond .eq 5, 3) := dk_153 0 5 (dk_at dksX4_weight_4 10 rfl rfl)
theorem dX4_weight_109 : decode cX4_weight 109 = .ok (.iconst 1, 1) := dk_4 (dk_at dksX4_weight_4 13 rfl rfl)
theorem dX4_weight_110 : decode cX4_weight 110 = .ok (.ireturn, 1) := dk_172 (dk_at dksX4_weight_4 14 rfl rfl)
theorem dX4_weight_111 : decode cX4_weight 111 = .ok (.iconst 0, 1) := dk_3 (dk_at dksX4_weight_4 15 rfl rfl)
theorem dX4_weight_112 : decode cX4_weight 112 = .ok (.istore_n 3, 1) := dk_62 (dk_at dksX4_weight_4 16 rfl rfl)
theorem dX4_weight_113 : decode cX4_weight 113 = .ok (.iload_n 3, 1) := dk_29 (dk_at dksX4_weight_4 17 rfl rfl)
theorem dX4_weight_114 : decode cX4_weight 114 = .ok (.bipush 12, 2) := dk_16 12 (dk_at dksX4_weight_4 18 rfl rfl)
theorem dX4_weight_116 : decode cX4_weight 116 = .ok (.if_icmp .ge 26, 3) := dk_162 0 26 (dk_at dksX4_weight_4 20 rfl rfl)
theorem dX4_weight_119 : decode cX4_weight 119 = .ok (.aload_n 0, 1) := dk_42 (dk_at dksX4_weight_4 23 rfl rfl)
theorem dX4_weight_120 : decode cX4_weight 120 = .ok (.getfield 27, 3) := dk_180 0 27 (dk_at dksX4_weight_5 0 rfl rfl)
theorem dX4_weight_123 : decode cX4_weight 123 = .ok (.bipush 12, 2) := dk_16 12 (dk_at dksX4_weight_5 3 rfl rfl)
theorem dX4_weight_125 : decode cX4_weight 125 = .ok (.iload_n 1, 1) := dk_27 (dk_at dksX4_weight_5 5 rfl rfl)
theorem dX4_weight_126 : decode cX4_weight 126 = .ok (.imul, 1) := dk_104 (dk_at dksX4_weight_5 6 rfl rfl)
theorem dX4_weight_127 : decode cX4_weight 127 = .ok (.iload_n 3, 1) := dk_29 (dk_at dksX4_weight_5 7 rfl rfl)
theorem dX4_weight_128 : decode cX4_weight 128 = .ok (.iadd, 1) := dk_96 (dk_at dksX4_weight_5 8 rfl rfl)
theorem dX4_weight_129 : decode cX4_weight 129 = .ok (.aload_n 0, 1) := dk_42 (dk_at dksX4_weight_5 9 rfl rfl)
theorem dX4_weight_130 : decode cX4_weight 130 = .ok (.getfield 42, 3) := dk_180 0 42 (dk_at dksX4_weight_5 10 rfl rfl)
theorem dX4_weight_133 : decode cX4_weight 133 = .ok (.iload_n 3, 1) := dk_29 (dk_at dksX4_weight_5 13 rfl rfl)
theorem dX4_weight_134 : decode cX4_weight 134 = .ok (.laload, 1) := dk_47 (dk_at dksX4_weight_5 14 rfl rfl)
theorem dX4_weight_135 : decode cX4_weight 135 = .ok (.lastore, 1) := dk_80 (dk_at dksX4_weight_5 15 rfl rfl)
theorem dX4_weight_136 : decode cX4_weight 136 = .ok (.iinc 3 1, 3) := dk_132 3 1 (dk_at dksX4_weight_5 16 rfl rfl)
theorem dX4_weight_139 : decode cX4_weight 139 = .ok (.goto (-26), 3) := dk_167 255 230 (dk_at dksX4_weight_5 19 rfl rfl)
theorem dX4_weight_142 : decode cX4_weight 142 = .ok (.bipush (-16), 2) := dk_16 240 (dk_at dksX4_weight_5 22 rfl rfl)
theorem dX4_weight_144 : decode cX4_weight 144 = .ok (.ireturn, 1) := dk_172 (dk_at dksX4_weight_6 0 rfl rfl)
abbrev cX4_total : ByteArray := prog_9_method_48_code
def yX4_total : MethodName := ⟨RX4, "total", "(I)I"⟩
def dkwX4_total_5 : List UInt8 := [180, 0, 45, 104, 28, 96, 42, 182, 0, 118, 80, 132, 2, 1, 167, 255, 175, 42, 182, 0, 64, 172]
abbrev dktX4_total_5 : List UInt8 := dkwX4_total_5 ++ []
def dkwX4_total_4 : List UInt8 := [47, 42, 180, 0, 30, 29, 46, 133, 182, 0, 108, 132, 3, 1, 167, 255, 213, 42, 180, 0, 19, 16, 12, 42]
abbrev dktX4_total_4 : List UInt8 := dkwX4_total_4 ++ dktX4_total_5
def dkwX4_total_3 : List UInt8 := [162, 0, 41, 27, 2, 159, 0, 8, 27, 29, 160, 0, 25, 42, 42, 180, 0, 27, 16, 12, 29, 104, 28, 96]
abbrev dktX4_total_3 : List UInt8 := dkwX4_total_3 ++ dktX4_total_4
def dkwX4_total_2 : List UInt8 := [182, 0, 60, 3, 61, 28, 42, 180, 0, 23, 162, 0, 79, 42, 182, 0, 105, 3, 62, 29, 42, 180, 0, 198]
abbrev dktX4_total_2 : List UInt8 := dkwX4_total_2 ++ dktX4_total_3
def dkwX4_total_1 : List UInt8 := [180, 0, 45, 16, 60, 160, 0, 6, 16, 252, 172, 42, 42, 180, 0, 52, 42, 180, 0, 55, 42, 180, 0, 23]
abbrev dktX4_total_1 : List UInt8 := dkwX4_total_1 ++ dktX4_total_2
def dkwX4_total_0 : List UInt8 := [27, 133, 20, 0, 112, 42, 180, 0, 198, 4, 100, 133, 184, 0, 48, 154, 0, 6, 16, 254, 172, 42]
abbrev dktX4_total_0 : List UInt8 := dkwX4_total_0 ++ dktX4_total_1
theorem dksX4_total_0 : cX4_total.data.toList.drop 0 = dktX4_total_0 := by decide +kernel
theorem dksX4_total_1 : cX4_total.data.toList.drop 22 = dktX4_total_1 := dk_seg dksX4_total_0 22 rfl rfl
theorem dksX4_total_2 : cX4_total.data.toList.drop 46 = dktX4_total_2 := dk_seg dksX4_total_1 24 rfl rfl
theorem dksX4_total_3 : cX4_total.data.toList.drop 70 = dktX4_total_3 := dk_seg dksX4_total_2 24 rfl rfl
theorem dksX4_total_4 : cX4_total.data.toList.drop 94 = dktX4_total_4 := dk_seg dksX4_total_3 24 rfl rfl
theorem dksX4_total_5 : cX4_total.data.toList.drop 118 = dktX4_total_5 := dk_seg dksX4_total_4 24 rfl rfl
theorem dX4_total_0 : decode cX4_total 0 = .ok (.iload_n 1, 1) := dk_27 (dk_at dksX4_total_0 0 rfl rfl)
theorem dX4_total_1 : decode cX4_total 1 = .ok (.i2l, 1) := dk_133 (dk_at dksX4_total_0 1 rfl rfl)
theorem dX4_total_2 : decode cX4_total 2 = .ok (.ldc2_w 112, 3) := dk_20 0 112 (dk_at dksX4_total_0 2 rfl rfl)
theorem dX4_total_5 : decode cX4_total 5 = .ok (.aload_n 0, 1) := dk_42 (dk_at dksX4_total_0 5 rfl rfl)
theorem dX4_total_6 : decode cX4_total 6 = .ok (.getfield 198, 3) := dk_180 0 198 (dk_at dksX4_total_0 6 rfl rfl)
theorem dX4_total_9 : decode cX4_total 9 = .ok (.iconst 1, 1) := dk_4 (dk_at dksX4_total_0 9 rfl rfl)
theorem dX4_total_10 : decode cX4_total 10 = .ok (.isub, 1) := dk_100 (dk_at dksX4_total_0 10 rfl rfl)
theorem dX4_total_11 : decode cX4_total 11 = .ok (.i2l, 1) := dk_133 (dk_at dksX4_total_0 11 rfl rfl)
theorem dX4_total_12 : decode cX4_total 12 = .ok (.invokestatic 48, 3) := dk_184 0 48 (dk_at dksX4_total_0 12 rfl rfl)
theorem dX4_total_15 : decode cX4_total 15 = .ok (.ifCond .ne 6, 3) := dk_154 0 6 (dk_at dksX4_total_0 15 rfl rfl)
theorem dX4_total_18 : decode cX4_total 18 = .ok (.bipush (-2), 2) := dk_16 254 (dk_at dksX4_total_0 18 rfl rfl)
theorem dX4_total_20 : decode cX4_total 20 = .ok (.ireturn, 1) := dk_172 (dk_at dksX4_total_0 20 rfl rfl)
theorem dX4_total_21 : decode cX4_total 21 = .ok (.aload_n 0, 1) := dk_42 (dk_at dksX4_total_0 21 rfl rfl)
theorem dX4_total_22 : decode cX4_total 22 = .ok (.getfield 45, 3) := dk_180 0 45 (dk_at dksX4_total_1 0 rfl rfl)
theorem dX4_total_25 : decode cX4_total 25 = .ok (.bipush 60, 2) := dk_16 60 (dk_at dksX4_total_1 3 rfl rfl)
theorem dX4_total_27 : decode cX4_total 27 = .ok (.if_icmp .ne 6, 3) := dk_160 0 6 (dk_at dksX4_total_1 5 rfl rfl)
theorem dX4_total_30 : decode cX4_total 30 = .ok (.bipush (-4), 2) := dk_16 252 (dk_at dksX4_total_1 8 rfl rfl)
theorem dX4_total_32 : decode cX4_total 32 = .ok (.ireturn, 1) := dk_172 (dk_at dksX4_total_1 10 rfl rfl)
theorem dX4_total_33 : decode cX4_total 33 = .ok (.aload_n 0, 1) := dk_42 (dk_at dksX4_total_1 11 rfl rfl)
theorem dX4_total_34 : decode cX4_total 34 = .ok (.aload_n 0, 1) := dk_42 (dk_at dksX4_total_1 12 rfl rfl)
theorem dX4_total_35 : decode cX4_total 35 = .ok (.getfield 52, 3) := dk_180 0 52 (dk_at dksX4_total_1 13 rfl rfl)
theorem dX4_total_38 : decode cX4_total 38 = .ok (.aload_n 0, 1) := dk_42 (dk_at dksX4_total_1 16 rfl rfl)
theorem dX4_total_39 : decode cX4_total 39 = .ok (.getfield 55, 3) := dk_180 0 55 (dk_at dksX4_total_1 17 rfl rfl)
theorem dX4_total_42 : decode cX4_total 42 = .ok (.aload_n 0, 1) := dk_42 (dk_at dksX4_total_1 20 rfl rfl)
theorem dX4_total_43 : decode cX4_total 43 = .ok (.getfield 23, 3) := dk_180 0 23 (dk_at dksX4_total_1 21 rfl rfl)
theorem dX4_total_46 : decode cX4_total 46 = .ok (.invokevirtual 60, 3) := dk_182 0 60 (dk_at dksX4_total_2 0 rfl rfl)
theorem dX4_total_49 : decode cX4_total 49 = .ok (.iconst 0, 1) := dk_3 (dk_at dksX4_total_2 3 rfl rfl)
theorem dX4_total_50 : decode cX4_total 50 = .ok (.istore_n 2, 1) := dk_61 (dk_at dksX4_total_2 4 rfl rfl)
theorem dX4_total_51 : decode cX4_total 51 = .ok (.iload_n 2, 1) := dk_28 (dk_at dksX4_total_2 5 rfl rfl)
theorem dX4_total_52 : decode cX4_total 52 = .ok (.aload_n 0, 1) := dk_42 (dk_at dksX4_total_2 6 rfl rfl)
theorem dX4_total_53 : decode cX4_total 53 = .ok (.getfield 23, 3) := dk_180 0 23 (dk_at dksX4_total_2 7 rfl rfl)
theorem dX4_total_56 : decode cX4_total 56 = .ok (.if_icmp .ge 79, 3) := dk_162 0 79 (dk_at dksX4_total_2 10 rfl rfl)
theorem dX4_total_59 : decode cX4_total 59 = .ok (.aload_n 0, 1) := dk_42 (dk_at dksX4_total_2 13 rfl rfl)
theorem dX4_total_60 : decode cX4_total 60 = .ok (.invokevirtual 105, 3) := dk_182 0 105 (dk_at dksX4_total_2 14 rfl rfl)
theorem dX4_total_63 : decode cX4_total 63 = .ok (.iconst 0, 1) := dk_3 (dk_at dksX4_total_2 17 rfl rfl)
theorem dX4_total_64 : decode cX4_total 64 = .ok (.istore_n 3, 1) := dk_62 (dk_at dksX4_total_2 18 rfl rfl)
theorem dX4_total_65 : decode cX4_total 65 = .ok (.iload_n 3, 1) := dk_29 (dk_at dksX4_total_2 19 rfl rfl)
theorem dX4_total_66 : decode cX4_total 66 = .ok (.aload_n 0, 1) := dk_42 (dk_at dksX4_total_2 20 rfl rfl)
theorem dX4_total_67 : decode cX4_total 67 = .ok (.getfield 198, 3) := dk_180 0 198 (dk_at dksX4_total_2 21 rfl rfl)
theorem dX4_total_70 : decode cX4_total 70 = .ok (.if_icmp .ge 41, 3) := dk_162 0 41 (dk_at dksX4_total_3 0 rfl rfl)
theorem dX4_total_73 : decode cX4_total 73 = .ok (.iload_n 1, 1) := dk_27 (dk_at dksX4_total_3 3 rfl rfl)
theorem dX4_total_74 : decode cX4_total 74 = .ok (.iconst (-1), 1) := dk_2 (dk_at dksX4_total_3 4 rfl rfl)
theorem dX4_total_75 : decode cX4_total 75 = .ok (.if_icmp .eq 8, 3) := dk_159 0 8 (dk_at dksX4_total_3 5 rfl rfl)
theorem dX4_total_78 : decode cX4_total 78 = .ok (.iload_n 1, 1) := dk_27 (dk_at dksX4_total_3 8 rfl rfl)
theorem dX4_total_79 : decode cX4_total 79 = .ok (.iload_n 3, 1) := dk_29 (dk_at dksX4_total_3 9 rfl rfl)
theorem dX4_total_80 : decode cX4_total 80 = .ok (.if_icmp .ne 25, 3) := dk_160 0 25 (dk_at dksX4_total_3 10 rfl rfl)
theorem dX4_total_83 : decode cX4_total 83 = .ok (.aload_n 0, 1) := dk_42 (dk_at dksX4_total_3 13 rfl rfl)
theorem dX4_total_84 : decode cX4_total 84 = .ok (.aload_n 0, 1) := dk_42 (dk_at dksX4_total_3 14 rfl rfl)
theorem dX4_total_85 : decode cX4_total 85 = .ok (.getfield 27, 3) := dk_180 0 27 (dk_at dksX4_total_3 15 rfl rfl)
theorem dX4_total_88 : decode cX4_total 88 = .ok (.bipush 12, 2) := dk_16 12 (dk_at dksX4_total_3 18 rfl rfl)
theorem dX4_total_90 : decode cX4_total 90 = .ok (.iload_n 3, 1) := dk_29 (dk_at dksX4_total_3 20 rfl rfl)
theorem dX4_total_91 : decode cX4_total 91 = .ok (.imul, 1) := dk_104 (dk_at dksX4_total_3 21 rfl rfl)
theorem dX4_total_92 : decode cX4_total 92 = .ok (.iload_n 2, 1) := dk_28 (dk_at dksX4_total_3 22 rfl rfl)
theorem dX4_total_93 : decode cX4_total 93 = .ok (.iadd, 1) := dk_96 (dk_at dksX4_total_3 23 rfl rfl)
theorem dX4_total_94 : decode cX4_total 94 = .ok (.laload, 1) := dk_47 (dk_at dksX4_total_4 0 rfl rfl)
theorem dX4_total_95 : decode cX4_total 95 = .ok (.aload_n 0, 1) := dk_42 (dk_at dksX4_total_4 1 rfl rfl)
theorem dX4_total_96 : decode cX4_total 96 = .ok (.getfield 30, 3) := dk_180 0 30 (dk_at dksX4_total_4 2 rfl rfl)
theorem dX4_total_99 : decode cX4_total 99 = .ok (.iload_n 3, 1) := dk_29 (dk_at dksX4_total_4 5 rfl rfl)
theorem dX4_total_100 : decode cX4_total 100 = .ok (.iaload, 1) := dk_46 (dk_at dksX4_total_4 6 rfl rfl)
theorem dX4_total_101 : decode cX4_total 101 = .ok (.i2l, 1) := dk_133 (dk_at dksX4_total_4 7 rfl rfl)
theorem dX4_total_102 : decode cX4_total 102 = .ok (.invokevirtual 108, 3) := dk_182 0 108 (dk_at dksX4_total_4 8 rfl rfl)
theorem dX4_total_105 : decode cX4_total 105 = .ok (.iinc 3 1, 3) := dk_132 3 1 (dk_at dksX4_total_4 11 rfl rfl)
theorem dX4_total_108 : decode cX4_total 108 = .ok (.goto (-43), 3) := dk_167 255 213 (dk_at dksX4_total_4 14 rfl rfl)
theorem dX4_total_111 : decode cX4_total 111 = .ok (.aload_n 0, 1) := dk_42 (dk_at dksX4_total_4 17 rfl rfl)
theorem dX4_total_112 : decode cX4_total 112 = .ok (.getfield 19, 3) := dk_180 0 19 (dk_at dksX4_total_4 18 rfl rfl)
theorem dX4_total_115 : decode cX4_total 115 = .ok (.bipush 12, 2) := dk_16 12 (dk_at dksX4_total_4 21 rfl rfl)
theorem dX4_total_117 : decode cX4_total 117 = .ok (.aload_n 0, 1) := dk_42 (dk_at dksX4_total_4 23 rfl rfl)
theorem dX4_total_118 : decode cX4_total 118 = .ok (.getfield 45, 3) := dk_180 0 45 (dk_at dksX4_total_5 0 rfl rfl)
theorem dX4_total_121 : decode cX4_total 121 = .ok (.imul, 1) := dk_104 (dk_at dksX4_total_5 3 rfl rfl)
theorem dX4_total_122 : decode cX4_total 122 = .ok (.iload_n 2, 1) := dk_28 (dk_at dksX4_total_5 4 rfl rfl)
theorem dX4_total_123 : decode cX4_total 123 = .ok (.iadd, 1) := dk_96 (dk_at dksX4_total_5 5 rfl rfl)
theorem dX4_total_124 : decode cX4_total 124 = .ok (.aload_n 0, 1) := dk_42 (dk_at dksX4_total_5 6 rfl rfl)
theorem dX4_total_125 : decode cX4_total 125 = .ok (.invokevirtual 118, 3) := dk_182 0 118 (dk_at dksX4_total_5 7 rfl rfl)
theorem dX4_total_128 : decode cX4_total 128 = .ok (.lastore, 1) := dk_80 (dk_at dksX4_total_5 10 rfl rfl)
theorem dX4_total_129 : decode cX4_total 129 = .ok (.iinc 2 1, 3) := dk_132 2 1 (dk_at dksX4_total_5 11 rfl rfl)
theorem dX4_total_132 : decode cX4_total 132 = .ok (.goto (-81), 3) := dk_167 255 175 (dk_at dksX4_total_5 14 rfl rfl)
theorem dX4_total_135 : decode cX4_total 135 = .ok (.aload_n 0, 1) := dk_42 (dk_at dksX4_total_5 17 rfl rfl)
theorem dX4_total_136 : decode cX4_total 136 = .ok (.invokevirtual 64, 3) := dk_182 0 64 (dk_at dksX4_total_5 18 rfl rfl)
theorem dX4_total_139 : decode cX4_total 139 = .ok (.ireturn, 1) := dk_172 (dk_at dksX4_total_5 21 rfl rfl)
abbrev cX4_safe : ByteArray := prog_9_method_49_code
def yX4_safe : MethodName := ⟨RX4, "safe", "(I)I"⟩
def dkwX4_safe_6 : List UInt8 := [28, 153, 0, 7, 4, 167, 0, 4, 3, 172]
abbrev dktX4_safe_6 : List UInt8 := dkwX4_safe_6 ++ []
def dkwX4_safe_5 : List UInt8 := [182, 0, 114, 153, 0, 7, 4, 167, 0, 4, 3, 61, 132, 4, 1, 167, 255, 157, 132, 3, 1, 167, 255, 140]
abbrev dktX4_safe_5 : List UInt8 := dkwX4_safe_5 ++ dktX4_safe_6
def dkwX4_safe_4 : List UInt8 := [22, 6, 167, 0, 4, 9, 27, 133, 182, 0, 108, 132, 5, 1, 167, 255, 193, 28, 153, 0, 14, 42]
abbrev dktX4_safe_4 : List UInt8 := dkwX4_safe_4 ++ dktX4_safe_5
def dkwX4_safe_3 : List UInt8 := [154, 0, 7, 4, 167, 0, 4, 3, 22, 6, 9, 148, 158, 0, 7, 4, 167, 0, 4, 3, 160, 0, 8]
abbrev dktX4_safe_3 : List UInt8 := dkwX4_safe_3 ++ dktX4_safe_4
def dkwX4_safe_2 : List UInt8 := [180, 0, 198, 162, 0, 60, 42, 180, 0, 27, 16, 12, 21, 5, 104, 29, 96, 47, 55, 6, 42, 21, 4]
abbrev dktX4_safe_2 : List UInt8 := dkwX4_safe_2 ++ dktX4_safe_3
def dkwX4_safe_1 : List UInt8 := [162, 0, 114, 3, 54, 4, 21, 4, 5, 162, 0, 99, 42, 182, 0, 105, 3, 54, 5, 21, 5, 42]
abbrev dktX4_safe_1 : List UInt8 := dkwX4_safe_1 ++ dktX4_safe_2
def dkwX4_safe_0 : List UInt8 := [27, 133, 9, 20, 0, 211, 184, 0, 48, 154, 0, 6, 16, 253, 172, 4, 61, 3, 62, 29, 42, 180, 0, 23]
abbrev dktX4_safe_0 : List UInt8 := dkwX4_safe_0 ++ dktX4_safe_1
theorem dksX4_safe_0 : cX4_safe.data.toList.drop 0 = dktX4_safe_0 := by decide +kernel
theorem dksX4_safe_1 : cX4_safe.data.toList.drop 24 = dktX4_safe_1 := dk_seg dksX4_safe_0 24 rfl rfl
theorem dksX4_safe_2 : cX4_safe.data.toList.drop 46 = dktX4_safe_2 := dk_seg dksX4_safe_1 22 rfl rfl
theorem dksX4_safe_3 : cX4_safe.data.toList.drop 69 = dktX4_safe_3 := dk_seg dksX4_safe_2 23 rfl rfl
theorem dksX4_safe_4 : cX4_safe.data.toList.drop 92 = dktX4_safe_4 := dk_seg dksX4_safe_3 23 rfl rfl
theorem dksX4_safe_5 : cX4_safe.data.toList.drop 114 = dktX4_safe_5 := dk_seg dksX4_safe_4 22 rfl rfl
theorem dksX4_safe_6 : cX4_safe.data.toList.drop 138 = dktX4_safe_6 := dk_seg dksX4_safe_5 24 rfl rfl
theorem dX4_safe_0 : decode cX4_safe 0 = .ok (.iload_n 1, 1) := dk_27 (dk_at dksX4_safe_0 0 rfl rfl)
theorem dX4_safe_1 : decode cX4_safe 1 = .ok (.i2l, 1) := dk_133 (dk_at dksX4_safe_0 1 rfl rfl)
theorem dX4_safe_2 : decode cX4_safe 2 = .ok (.lconst 0, 1) := dk_9 (dk_at dksX4_safe_0 2 rfl rfl)
theorem dX4_safe_3 : decode cX4_safe 3 = .ok (.ldc2_w 211, 3) := dk_20 0 211 (dk_at dksX4_safe_0 3 rfl rfl)
theorem dX4_safe_6 : decode cX4_safe 6 = .ok (.invokestatic 48, 3) := dk_184 0 48 (dk_at dksX4_safe_0 6 rfl rfl)
theorem dX4_safe_9 : decode cX4_safe 9 = .ok (.ifCond .ne 6, 3) := dk_154 0 6 (dk_at dksX4_safe_0 9 rfl rfl)
theorem dX4_safe_12 : decode cX4_safe 12 = .ok (.bipush (-3), 2) := dk_16 253 (dk_at dksX4_safe_0 12 rfl rfl)
theorem dX4_safe_14 : decode cX4_safe 14 = .ok (.ireturn, 1) := dk_172 (dk_at dksX4_safe_0 14 rfl rfl)
theorem dX4_safe_15 : decode cX4_safe 15 = .ok (.iconst 1, 1) := dk_4 (dk_at dksX4_safe_0 15 rfl rfl)
theorem dX4_safe_16 : decode cX4_safe 16 = .ok (.istore_n 2, 1) := dk_61 (dk_at dksX4_safe_0 16 rfl rfl)
theorem dX4_safe_17 : decode cX4_safe 17 = .ok (.iconst 0, 1) := dk_3 (dk_at dksX4_safe_0 17 rfl rfl)
theorem dX4_safe_18 : decode cX4_safe 18 = .ok (.istore_n 3, 1) := dk_62 (dk_at dksX4_safe_0 18 rfl rfl)
theorem dX4_safe_19 : decode cX4_safe 19 = .ok (.iload_n 3, 1) := dk_29 (dk_at dksX4_safe_0 19 rfl rfl)
theorem dX4_safe_20 : decode cX4_safe 20 = .ok (.aload_n 0, 1) := dk_42 (dk_at dksX4_safe_0 20 rfl rfl)
theorem dX4_safe_21 : decode cX4_safe 21 = .ok (.getfield 23, 3) := dk_180 0 23 (dk_at dksX4_safe_0 21 rfl rfl)
theorem dX4_safe_24 : decode cX4_safe 24 = .ok (.if_icmp .ge 114, 3) := dk_162 0 114 (dk_at dksX4_safe_1 0 rfl rfl)
theorem dX4_safe_27 : decode cX4_safe 27 = .ok (.iconst 0, 1) := dk_3 (dk_at dksX4_safe_1 3 rfl rfl)
theorem dX4_safe_28 : decode cX4_safe 28 = .ok (.istore 4, 2) := dk_54 4 (dk_at dksX4_safe_1 4 rfl rfl)
theorem dX4_safe_30 : decode cX4_safe 30 = .ok (.iload 4, 2) := dk_21 4 (dk_at dksX4_safe_1 6 rfl rfl)
theorem dX4_safe_32 : decode cX4_safe 32 = .ok (.iconst 2, 1) := dk_5 (dk_at dksX4_safe_1 8 rfl rfl)
theorem dX4_safe_33 : decode cX4_safe 33 = .ok (.if_icmp .ge 99, 3) := dk_162 0 99 (dk_at dksX4_safe_1 9 rfl rfl)
theorem dX4_safe_36 : decode cX4_safe 36 = .ok (.aload_n 0, 1) := dk_42 (dk_at dksX4_safe_1 12 rfl rfl)
theorem dX4_safe_37 : decode cX4_safe 37 = .ok (.invokevirtual 105, 3) := dk_182 0 105 (dk_at dksX4_safe_1 13 rfl rfl)
theorem dX4_safe_40 : decode cX4_safe 40 = .ok (.iconst 0, 1) := dk_3 (dk_at dksX4_safe_1 16 rfl rfl)
theorem dX4_safe_41 : decode cX4_safe 41 = .ok (.istore 5, 2) := dk_54 5 (dk_at dksX4_safe_1 17 rfl rfl)
theorem dX4_safe_43 : decode cX4_safe 43 = .ok (.iload 5, 2) := dk_21 5 (dk_at dksX4_safe_1 19 rfl rfl)
theorem dX4_safe_45 : decode cX4_safe 45 = .ok (.aload_n 0, 1) := dk_42 (dk_at dksX4_safe_1 21 rfl rfl)
theorem dX4_safe_46 : decode cX4_safe 46 = .ok (.getfield 198, 3) := dk_180 0 198 (dk_at dksX4_safe_2 0 rfl rfl)
theorem dX4_safe_49 : decode cX4_safe 49 = .ok (.if_icmp .ge 60, 3) := dk_162 0 60 (dk_at dksX4_safe_2 3 rfl rfl)
theorem dX4_safe_52 : decode cX4_safe 52 = .ok (.aload_n 0, 1) := dk_42 (dk_at dksX4_safe_2 6 rfl rfl)
theorem dX4_safe_53 : decode cX4_safe 53 = .ok (.getfield 27, 3) := dk_180 0 27 (dk_at dksX4_safe_2 7 rfl rfl)
theorem dX4_safe_56 : decode cX4_safe 56 = .ok (.bipush 12, 2) := dk_16 12 (dk_at dksX4_safe_2 10 rfl rfl)
theorem dX4_safe_58 : decode cX4_safe 58 = .ok (.iload 5, 2) := dk_21 5 (dk_at dksX4_safe_2 12 rfl rfl)
theorem dX4_safe_60 : decode cX4_safe 60 = .ok (.imul, 1) := dk_104 (dk_at dksX4_safe_2 14 rfl rfl)
theorem dX4_safe_61 : decode cX4_safe 61 = .ok (.iload_n 3, 1) := dk_29 (dk_at dksX4_safe_2 15 rfl rfl)
theorem dX4_safe_62 : decode cX4_safe 62 = .ok (.iadd, 1) := dk_96 (dk_at dksX4_safe_2 16 rfl rfl)
theorem dX4_safe_63 : decode cX4_safe 63 = .ok (.laload, 1) := dk_47 (dk_at dksX4_safe_2 17 rfl rfl)
theorem dX4_safe_64 : decode cX4_safe 64 = .ok (.lstore 6, 2) := dk_55 6 (dk_at dksX4_safe_2 18 rfl rfl)
theorem dX4_safe_66 : decode cX4_safe 66 = .ok (.aload_n 0, 1) := dk_42 (dk_at dksX4_safe_2 20 rfl rfl)
theorem dX4_safe_67 : decode cX4_safe 67 = .ok (.iload 4, 2) := dk_21 4 (dk_at dksX4_safe_2 21 rfl rfl)
theorem dX4_safe_69 : decode cX4_safe 69 = .ok (.ifCond .ne 7, 3) := dk_154 0 7 (dk_at dksX4_safe_3 0 rfl rfl)
theorem dX4_safe_72 : decode cX4_safe 72 = .ok (.iconst 1, 1) := dk_4 (dk_at dksX4_safe_3 3 rfl rfl)
theorem dX4_safe_73 : decode cX4_safe 73 = .ok (.goto 4, 3) := dk_167 0 4 (dk_at dksX4_safe_3 4 rfl rfl)
theorem dX4_safe_76 : decode cX4_safe 76 = .ok (.iconst 0, 1) := dk_3 (dk_at dksX4_safe_3 7 rfl rfl)
theorem dX4_safe_77 : decode cX4_safe 77 = .ok (.lload 6, 2) := dk_22 6 (dk_at dksX4_safe_3 8 rfl rfl)
theorem dX4_safe_79 : decode cX4_safe 79 = .ok (.lconst 0, 1) := dk_9 (dk_at dksX4_safe_3 10 rfl rfl)
theorem dX4_safe_80 : decode cX4_safe 80 = .ok (.lcmp, 1) := dk_148 (dk_at dksX4_safe_3 11 rfl rfl)
theorem dX4_safe_81 : decode cX4_safe 81 = .ok (.ifCond .le 7, 3) := dk_158 0 7 (dk_at dksX4_safe_3 12 rfl rfl)
theorem dX4_safe_84 : decode cX4_safe 84 = .ok (.iconst 1, 1) := dk_4 (dk_at dksX4_safe_3 15 rfl rfl)
theorem dX4_safe_85 : decode cX4_safe 85 = .ok (.goto 4, 3) := dk_167 0 4 (dk_at dksX4_safe_3 16 rfl rfl)
theorem dX4_safe_88 : decode cX4_safe 88 = .ok (.iconst 0, 1) := dk_3 (dk_at dksX4_safe_3 19 rfl rfl)
theorem dX4_safe_89 : decode cX4_safe 89 = .ok (.if_icmp .ne 8, 3) := dk_160 0 8 (dk_at dksX4_safe_3 20 rfl rfl)
theorem dX4_safe_92 : decode cX4_safe 92 = .ok (.lload 6, 2) := dk_22 6 (dk_at dksX4_safe_4 0 rfl rfl)
theorem dX4_safe_94 : decode cX4_safe 94 = .ok (.goto 4, 3) := dk_167 0 4 (dk_at dksX4_safe_4 2 rfl rfl)
theorem dX4_safe_97 : decode cX4_safe 97 = .ok (.lconst 0, 1) := dk_9 (dk_at dksX4_safe_4 5 rfl rfl)
theorem dX4_safe_98 : decode cX4_safe 98 = .ok (.iload_n 1, 1) := dk_27 (dk_at dksX4_safe_4 6 rfl rfl)
theorem dX4_safe_99 : decode cX4_safe 99 = .ok (.i2l, 1) := dk_133 (dk_at dksX4_safe_4 7 rfl rfl)
theorem dX4_safe_100 : decode cX4_safe 100 = .ok (.invokevirtual 108, 3) := dk_182 0 108 (dk_at dksX4_safe_4 8 rfl rfl)
theorem dX4_safe_103 : decode cX4_safe 103 = .ok (.iinc 5 1, 3) := dk_132 5 1 (dk_at dksX4_safe_4 11 rfl rfl)
theorem dX4_safe_106 : decode cX4_safe 106 = .ok (.goto (-63), 3) := dk_167 255 193 (dk_at dksX4_safe_4 14 rfl rfl)
theorem dX4_safe_109 : decode cX4_safe 109 = .ok (.iload_n 2, 1) := dk_28 (dk_at dksX4_safe_4 17 rfl rfl)
theorem dX4_safe_110 : decode cX4_safe 110 = .ok (.ifCond .eq 14, 3) := dk_153 0 14 (dk_at dksX4_safe_4 18 rfl rfl)
theorem dX4_safe_113 : decode cX4_safe 113 = .ok (.aload_n 0, 1) := dk_42 (dk_at dksX4_safe_4 21 rfl rfl)
theorem dX4_safe_114 : decode cX4_safe 114 = .ok (.invokevirtual 114, 3) := dk_182 0 114 (dk_at dksX4_safe_5 0 rfl rfl)
theorem dX4_safe_117 : decode cX4_safe 117 = .ok (.ifCond .eq 7, 3) := dk_153 0 7 (dk_at dksX4_safe_5 3 rfl rfl)
theorem dX4_safe_120 : decode cX4_safe 120 = .ok (.iconst 1, 1) := dk_4 (dk_at dksX4_safe_5 6 rfl rfl)
theorem dX4_safe_121 : decode cX4_safe 121 = .ok (.goto 4, 3) := dk_167 0 4 (dk_at dksX4_safe_5 7 rfl rfl)
theorem dX4_safe_124 : decode cX4_safe 124 = .ok (.iconst 0, 1) := dk_3 (dk_at dksX4_safe_5 10 rfl rfl)
theorem dX4_safe_125 : decode cX4_safe 125 = .ok (.istore_n 2, 1) := dk_61 (dk_at dksX4_safe_5 11 rfl rfl)
theorem dX4_safe_126 : decode cX4_safe 126 = .ok (.iinc 4 1, 3) := dk_132 4 1 (dk_at dksX4_safe_5 12 rfl rfl)
theorem dX4_safe_129 : decode cX4_safe 129 = .ok (.goto (-99), 3) := dk_167 255 157 (dk_at dksX4_safe_5 15 rfl rfl)
theorem dX4_safe_132 : decode cX4_safe 132 = .ok (.iinc 3 1, 3) := dk_132 3 1 (dk_at dksX4_safe_5 18 rfl rfl)
theorem dX4_safe_135 : decode cX4_safe 135 = .ok (.goto (-116), 3) := dk_167 255 140 (dk_at dksX4_safe_5 21 rfl rfl)
theorem dX4_safe_138 : decode cX4_safe 138 = .ok (.iload_n 2, 1) := dk_28 (dk_at dksX4_safe_6 0 rfl rfl)
theorem dX4_safe_139 : decode cX4_safe 139 = .ok (.ifCond .eq 7, 3) := dk_153 0 7 (dk_at dksX4_safe_6 1 rfl rfl)
theorem dX4_safe_142 : decode cX4_safe 142 = .ok (.iconst 1, 1) := dk_4 (dk_at dksX4_safe_6 4 rfl rfl)
theorem dX4_safe_143 : decode cX4_safe 143 = .ok (.goto 4, 3) := dk_167 0 4 (dk_at dksX4_safe_6 5 rfl rfl)
theorem dX4_safe_146 : decode cX4_safe 146 = .ok (.iconst 0, 1) := dk_3 (dk_at dksX4_safe_6 8 rfl rfl)
theorem dX4_safe_147 : decode cX4_safe 147 = .ok (.ireturn, 1) := dk_172 (dk_at dksX4_safe_6 9 rfl rfl)
abbrev cX4_keep : ByteArray := prog_9_method_50_code
def yX4_keep : MethodName := ⟨RX4, "keep", "(I)I"⟩
def dkwX4_keep_7 : List UInt8 := [42, 180, 0, 19, 16, 12, 27, 104, 29, 96, 47, 80, 132, 3, 1, 167, 255, 225, 28, 172]
abbrev dktX4_keep_7 : List UInt8 := dkwX4_keep_7 ++ []
def dkwX4_keep_6 : List UInt8 := [132, 3, 255, 167, 255, 228, 3, 62, 29, 16, 12, 162, 0, 31, 42, 180, 0, 33, 16, 12, 28, 104, 29, 96]
abbrev dktX4_keep_6 : List UInt8 := dkwX4_keep_6 ++ dktX4_keep_7
def dkwX4_keep_5 : List UInt8 := [16, 12, 28, 4, 96, 104, 161, 0, 24, 42, 180, 0, 33, 29, 42, 180, 0, 33, 29, 16, 12, 100, 47, 80]
abbrev dktX4_keep_5 : List UInt8 := dkwX4_keep_5 ++ dktX4_keep_6
def dkwX4_keep_4 : List UInt8 := [180, 0, 201, 4, 96, 167, 0, 4, 8, 181, 0, 201, 16, 12, 42, 180, 0, 201, 104, 4, 100, 62, 29]
abbrev dktX4_keep_4 : List UInt8 := dkwX4_keep_4 ++ dktX4_keep_5
def dkwX4_keep_3 : List UInt8 := [132, 2, 1, 167, 255, 218, 28, 8, 160, 0, 5, 2, 172, 42, 42, 180, 0, 201, 8, 162, 0, 12, 42]
abbrev dktX4_keep_3 : List UInt8 := dkwX4_keep_3 ++ dktX4_keep_4
def dkwX4_keep_2 : List UInt8 := [16, 12, 28, 104, 42, 180, 0, 19, 16, 12, 27, 104, 42, 180, 0, 23, 182, 0, 101, 155, 0, 9]
abbrev dktX4_keep_2 : List UInt8 := dkwX4_keep_2 ++ dktX4_keep_3
def dkwX4_keep_1 : List UInt8 := [182, 0, 204, 154, 0, 6, 16, 244, 172, 3, 61, 28, 42, 180, 0, 201, 162, 0, 36, 42, 42, 180, 0, 33]
abbrev dktX4_keep_1 : List UInt8 := dkwX4_keep_1 ++ dktX4_keep_2
def dkwX4_keep_0 : List UInt8 := [42, 27, 182, 0, 68, 154, 0, 6, 16, 254, 172, 42, 27, 182, 0, 72, 153, 0, 6, 16, 245, 172, 42, 27]
abbrev dktX4_keep_0 : List UInt8 := dkwX4_keep_0 ++ dktX4_keep_1
theorem dksX4_keep_0 : cX4_keep.data.toList.drop 0 = dktX4_keep_0 := by decide +kernel
theorem dksX4_keep_1 : cX4_keep.data.toList.drop 24 = dktX4_keep_1 := dk_seg dksX4_keep_0 24 rfl rfl
theorem dksX4_keep_2 : cX4_keep.data.toList.drop 48 = dktX4_keep_2 := dk_seg dksX4_keep_1 24 rfl rfl
theorem dksX4_keep_3 : cX4_keep.data.toList.drop 70 = dktX4_keep_3 := dk_seg dksX4_keep_2 22 rfl rfl
theorem dksX4_keep_4 : cX4_keep.data.toList.drop 93 = dktX4_keep_4 := dk_seg dksX4_keep_3 23 rfl rfl
theorem dksX4_keep_5 : cX4_keep.data.toList.drop 116 = dktX4_keep_5 := dk_seg dksX4_keep_4 23 rfl rfl
theorem dksX4_keep_6 : cX4_keep.data.toList.drop 140 = dktX4_keep_6 := dk_seg dksX4_keep_5 24 rfl rfl
theorem dksX4_keep_7 : cX4_keep.data.toList.drop 164 = dktX4_keep_7 := dk_seg dksX4_keep_6 24 rfl rfl
theorem dX4_keep_0 : decode cX4_keep 0 = .ok (.aload_n 0, 1) := dk_42 (dk_at dksX4_keep_0 0 rfl rfl)
theorem dX4_keep_1 : decode cX4_keep 1 = .ok (.iload_n 1, 1) := dk_27 (dk_at dksX4_keep_0 1 rfl rfl)
theorem dX4_keep_2 : decode cX4_keep 2 = .ok (.invokevirtual 68, 3) := dk_182 0 68 (dk_at dksX4_keep_0 2 rfl rfl)
theorem dX4_keep_5 : decode cX4_keep 5 = .ok (.ifCond .ne 6, 3) := dk_154 0 6 (dk_at dksX4_keep_0 5 rfl rfl)
theorem dX4_keep_8 : decode cX4_keep 8 = .ok (.bipush (-2), 2) := dk_16 254 (dk_at dksX4_keep_0 8 rfl rfl)
theorem dX4_keep_10 : decode cX4_keep 10 = .ok (.ireturn, 1) := dk_172 (dk_at dksX4_keep_0 10 rfl rfl)
theorem dX4_keep_11 : decode cX4_keep 11 = .ok (.aload_n 0, 1) := dk_42 (dk_at dksX4_keep_0 11 rfl rfl)
theorem dX4_keep_12 : decode cX4_keep 12 = .ok (.iload_n 1, 1) := dk_27 (dk_at dksX4_keep_0 12 rfl rfl)
theorem dX4_keep_13 : decode cX4_keep 13 = .ok (.invokevirtual 72, 3) := dk_182 0 72 (dk_at dksX4_keep_0 13 rfl rfl)
theorem dX4_keep_16 : decode cX4_keep 16 = .ok (.ifCond .eq 6, 3) := dk_153 0 6 (dk_at dksX4_keep_0 16 rfl rfl)
theorem dX4_keep_19 : decode cX4_keep 19 = .ok (.bipush (-11), 2) := dk_16 245 (dk_at dksX4_keep_0 19 rfl rfl)
theorem dX4_keep_21 : decode cX4_keep 21 = .ok (.ireturn, 1) := dk_172 (dk_at dksX4_keep_0 21 rfl rfl)
theorem dX4_keep_22 : decode cX4_keep 22 = .ok (.aload_n 0, 1) := dk_42 (dk_at dksX4_keep_0 22 rfl rfl)
theorem dX4_keep_23 : decode cX4_keep 23 = .ok (.iload_n 1, 1) := dk_27 (dk_at dksX4_keep_0 23 rfl rfl)
theorem dX4_keep_24 : decode cX4_keep 24 = .ok (.invokevirtual 204, 3) := dk_182 0 204 (dk_at dksX4_keep_1 0 rfl rfl)
theorem dX4_keep_27 : decode cX4_keep 27 = .ok (.ifCond .ne 6, 3) := dk_154 0 6 (dk_at dksX4_keep_1 3 rfl rfl)
theorem dX4_keep_30 : decode cX4_keep 30 = .ok (.bipush (-12), 2) := dk_16 244 (dk_at dksX4_keep_1 6 rfl rfl)
theorem dX4_keep_32 : decode cX4_keep 32 = .ok (.ireturn, 1) := dk_172 (dk_at dksX4_keep_1 8 rfl rfl)
theorem dX4_keep_33 : decode cX4_keep 33 = .ok (.iconst 0, 1) := dk_3 (dk_at dksX4_keep_1 9 rfl rfl)
theorem dX4_keep_34 : decode cX4_keep 34 = .ok (.istore_n 2, 1) := dk_61 (dk_at dksX4_keep_1 10 rfl rfl)
theorem dX4_keep_35 : decode cX4_keep 35 = .ok (.iload_n 2, 1) := dk_28 (dk_at dksX4_keep_1 11 rfl rfl)
theorem dX4_keep_36 : decode cX4_keep 36 = .ok (.aload_n 0, 1) := dk_42 (dk_at dksX4_keep_1 12 rfl rfl)
theorem dX4_keep_37 : decode cX4_keep 37 = .ok (.getfield 201, 3) := dk_180 0 201 (dk_at dksX4_keep_1 13 rfl rfl)
theorem dX4_keep_40 : decode cX4_keep 40 = .ok (.if_icmp .ge 36, 3) := dk_162 0 36 (dk_at dksX4_keep_1 16 rfl rfl)
theorem dX4_keep_43 : decode cX4_keep 43 = .ok (.aload_n 0, 1) := dk_42 (dk_at dksX4_keep_1 19 rfl rfl)
theorem dX4_keep_44 : decode cX4_keep 44 = .ok (.aload_n 0, 1) := dk_42 (dk_at dksX4_keep_1 20 rfl rfl)
theorem dX4_keep_45 : decode cX4_keep 45 = .ok (.getfield 33, 3) := dk_180 0 33 (dk_at dksX4_keep_1 21 rfl rfl)
theorem dX4_keep_48 : decode cX4_keep 48 = .ok (.bipush 12, 2) := dk_16 12 (dk_at dksX4_keep_2 0 rfl rfl)
theorem dX4_keep_50 : decode cX4_keep 50 = .ok (.iload_n 2, 1) := dk_28 (dk_at dksX4_keep_2 2 rfl rfl)
theorem dX4_keep_51 : decode cX4_keep 51 = .ok (.imul, 1) := dk_104 (dk_at dksX4_keep_2 3 rfl rfl)
theorem dX4_keep_52 : decode cX4_keep 52 = .ok (.aload_n 0, 1) := dk_42 (dk_at dksX4_keep_2 4 rfl rfl)
theorem dX4_keep_53 : decode cX4_keep 53 = .ok (.getfield 19, 3) := dk_180 0 19 (dk_at dksX4_keep_2 5 rfl rfl)
theorem dX4_keep_56 : decode cX4_keep 56 = .ok (.bipush 12, 2) := dk_16 12 (dk_at dksX4_keep_2 8 rfl rfl)
theorem dX4_keep_58 : decode cX4_keep 58 = .ok (.iload_n 1, 1) := dk_27 (dk_at dksX4_keep_2 10 rfl rfl)
theorem dX4_keep_59 : decode cX4_keep 59 = .ok (.imul, 1) := dk_104 (dk_at dksX4_keep_2 11 rfl rfl)
theorem dX4_keep_60 : decode cX4_keep 60 = .ok (.aload_n 0, 1) := dk_42 (dk_at dksX4_keep_2 12 rfl rfl)
theorem dX4_keep_61 : decode cX4_keep 61 = .ok (.getfield 23, 3) := dk_180 0 23 (dk_at dksX4_keep_2 13 rfl rfl)
theorem dX4_keep_64 : decode cX4_keep 64 = .ok (.invokevirtual 101, 3) := dk_182 0 101 (dk_at dksX4_keep_2 16 rfl rfl)
theorem dX4_keep_67 : decode cX4_keep 67 = .ok (.ifCond .lt 9, 3) := dk_155 0 9 (dk_at dksX4_keep_2 19 rfl rfl)
theorem dX4_keep_70 : decode cX4_keep 70 = .ok (.iinc 2 1, 3) := dk_132 2 1 (dk_at dksX4_keep_3 0 rfl rfl)
theorem dX4_keep_73 : decode cX4_keep 73 = .ok (.goto (-38), 3) := dk_167 255 218 (dk_at dksX4_keep_3 3 rfl rfl)
theorem dX4_keep_76 : decode cX4_keep 76 = .ok (.iload_n 2, 1) := dk_28 (dk_at dksX4_keep_3 6 rfl rfl)
theorem dX4_keep_77 : decode cX4_keep 77 = .ok (.iconst 5, 1) := dk_8 (dk_at dksX4_keep_3 7 rfl rfl)
theorem dX4_keep_78 : decode cX4_keep 78 = .ok (.if_icmp .ne 5, 3) := dk_160 0 5 (dk_at dksX4_keep_3 8 rfl rfl)
theorem dX4_keep_81 : decode cX4_keep 81 = .ok (.iconst (-1), 1) := dk_2 (dk_at dksX4_keep_3 11 rfl rfl)
theorem dX4_keep_82 : decode cX4_keep 82 = .ok (.ireturn, 1) := dk_172 (dk_at dksX4_keep_3 12 rfl rfl)
theorem dX4_keep_83 : decode cX4_keep 83 = .ok (.aload_n 0, 1) := dk_42 (dk_at dksX4_keep_3 13 rfl rfl)
theorem dX4_keep_84 : decode cX4_keep 84 = .ok (.aload_n 0, 1) := dk_42 (dk_at dksX4_keep_3 14 rfl rfl)
theorem dX4_keep_85 : decode cX4_keep 85 = .ok (.getfield 201, 3) := dk_180 0 201 (dk_at dksX4_keep_3 15 rfl rfl)
theorem dX4_keep_88 : decode cX4_keep 88 = .ok (.iconst 5, 1) := dk_8 (dk_at dksX4_keep_3 18 rfl rfl)
theorem dX4_keep_89 : decode cX4_keep 89 = .ok (.if_icmp .ge 12, 3) := dk_162 0 12 (dk_at dksX4_keep_3 19 rfl rfl)
theorem dX4_keep_92 : decode cX4_keep 92 = .ok (.aload_n 0, 1) := dk_42 (dk_at dksX4_keep_3 22 rfl rfl)
theorem dX4_keep_93 : decode cX4_keep 93 = .ok (.getfield 201, 3) := dk_180 0 201 (dk_at dksX4_keep_4 0 rfl rfl)
theorem dX4_keep_96 : decode cX4_keep 96 = .ok (.iconst 1, 1) := dk_4 (dk_at dksX4_keep_4 3 rfl rfl)
theorem dX4_keep_97 : decode cX4_keep 97 = .ok (.iadd, 1) := dk_96 (dk_at dksX4_keep_4 4 rfl rfl)
theorem dX4_keep_98 : decode cX4_keep 98 = .ok (.goto 4, 3) := dk_167 0 4 (dk_at dksX4_keep_4 5 rfl rfl)
theorem dX4_keep_101 : decode cX4_keep 101 = .ok (.iconst 5, 1) := dk_8 (dk_at dksX4_keep_4 8 rfl rfl)
theorem dX4_keep_102 : decode cX4_keep 102 = .ok (.putfield 201, 3) := dk_181 0 201 (dk_at dksX4_keep_4 9 rfl rfl)
theorem dX4_keep_105 : decode cX4_keep 105 = .ok (.bipush 12, 2) := dk_16 12 (dk_at dksX4_keep_4 12 rfl rfl)
theorem dX4_keep_107 : decode cX4_keep 107 = .ok (.aload_n 0, 1) := dk_42 (dk_at dksX4_keep_4 14 rfl rfl)
theorem dX4_keep_108 : decode cX4_keep 108 = .ok (.getfield 201, 3) := dk_180 0 201 (dk_at dksX4_keep_4 15 rfl rfl)
theorem dX4_keep_111 : decode cX4_keep 111 = .ok (.imul, 1) := dk_104 (dk_at dksX4_keep_4 18 rfl rfl)
theorem dX4_keep_112 : decode cX4_keep 112 = .ok (.iconst 1, 1) := dk_4 (dk_at dksX4_keep_4 19 rfl rfl)
theorem dX4_keep_113 : decode cX4_keep 113 = .ok (.isub, 1) := dk_100 (dk_at dksX4_keep_4 20 rfl rfl)
theorem dX4_keep_114 : decode cX4_keep 114 = .ok (.istore_n 3, 1) := dk_62 (dk_at dksX4_keep_4 21 rfl rfl)
theorem dX4_keep_115 : decode cX4_keep 115 = .ok (.iload_n 3, 1) := dk_29 (dk_at dksX4_keep_4 22 rfl rfl)
theorem dX4_keep_116 : decode cX4_keep 116 = .ok (.bipush 12, 2) := dk_16 12 (dk_at dksX4_keep_5 0 rfl rfl)
theorem dX4_keep_118 : decode cX4_keep 118 = .ok (.iload_n 2, 1) := dk_28 (dk_at dksX4_keep_5 2 rfl rfl)
theorem dX4_keep_119 : decode cX4_keep 119 = .ok (.iconst 1, 1) := dk_4 (dk_at dksX4_keep_5 3 rfl rfl)
theorem dX4_keep_120 : decode cX4_keep 120 = .ok (.iadd, 1) := dk_96 (dk_at dksX4_keep_5 4 rfl rfl)
theorem dX4_keep_121 : decode cX4_keep 121 = .ok (.imul, 1) := dk_104 (dk_at dksX4_keep_5 5 rfl rfl)
theorem dX4_keep_122 : decode cX4_keep 122 = .ok (.if_icmp .lt 24, 3) := dk_161 0 24 (dk_at dksX4_keep_5 6 rfl rfl)
theorem dX4_keep_125 : decode cX4_keep 125 = .ok (.aload_n 0, 1) := dk_42 (dk_at dksX4_keep_5 9 rfl rfl)
theorem dX4_keep_126 : decode cX4_keep 126 = .ok (.getfield 33, 3) := dk_180 0 33 (dk_at dksX4_keep_5 10 rfl rfl)
theorem dX4_keep_129 : decode cX4_keep 129 = .ok (.iload_n 3, 1) := dk_29 (dk_at dksX4_keep_5 13 rfl rfl)
theorem dX4_keep_130 : decode cX4_keep 130 = .ok (.aload_n 0, 1) := dk_42 (dk_at dksX4_keep_5 14 rfl rfl)
theorem dX4_keep_131 : decode cX4_keep 131 = .ok (.getfield 33, 3) := dk_180 0 33 (dk_at dksX4_keep_5 15 rfl rfl)
theorem dX4_keep_134 : decode cX4_keep 134 = .ok (.iload_n 3, 1) := dk_29 (dk_at dksX4_keep_5 18 rfl rfl)
theorem dX4_keep_135 : decode cX4_keep 135 = .ok (.bipush 12, 2) := dk_16 12 (dk_at dksX4_keep_5 19 rfl rfl)
theorem dX4_keep_137 : decode cX4_keep 137 = .ok (.isub, 1) := dk_100 (dk_at dksX4_keep_5 21 rfl rfl)
theorem dX4_keep_138 : decode cX4_keep 138 = .ok (.laload, 1) := dk_47 (dk_at dksX4_keep_5 22 rfl rfl)
theorem dX4_keep_139 : decode cX4_keep 139 = .ok (.lastore, 1) := dk_80 (dk_at dksX4_keep_5 23 rfl rfl)
theorem dX4_keep_140 : decode cX4_keep 140 = .ok (.iinc 3 (-1), 3) := dk_132 3 255 (dk_at dksX4_keep_6 0 rfl rfl)
theorem dX4_keep_143 : decode cX4_keep 143 = .ok (.goto (-28), 3) := dk_167 255 228 (dk_at dksX4_keep_6 3 rfl rfl)
theorem dX4_keep_146 : decode cX4_keep 146 = .ok (.iconst 0, 1) := dk_3 (dk_at dksX4_keep_6 6 rfl rfl)
theorem dX4_keep_147 : decode cX4_keep 147 = .ok (.istore_n 3, 1) := dk_62 (dk_at dksX4_keep_6 7 rfl rfl)
theorem dX4_keep_148 : decode cX4_keep 148 = .ok (.iload_n 3, 1) := dk_29 (dk_at dksX4_keep_6 8 rfl rfl)
theorem dX4_keep_149 : decode cX4_keep 149 = .ok (.bipush 12, 2) := dk_16 12 (dk_at dksX4_keep_6 9 rfl rfl)
theorem dX4_keep_151 : decode cX4_keep 151 = .ok (.if_icmp .ge 31, 3) := dk_162 0 31 (dk_at dksX4_keep_6 11 rfl rfl)
theorem dX4_keep_154 : decode cX4_keep 154 = .ok (.aload_n 0, 1) := dk_42 (dk_at dksX4_keep_6 14 rfl rfl)
theorem dX4_keep_155 : decode cX4_keep 155 = .ok (.getfield 33, 3) := dk_180 0 33 (dk_at dksX4_keep_6 15 rfl rfl)
theorem dX4_keep_158 : decode cX4_keep 158 = .ok (.bipush 12, 2) := dk_16 12 (dk_at dksX4_keep_6 18 rfl rfl)
theorem dX4_keep_160 : decode cX4_keep 160 = .ok (.iload_n 2, 1) := dk_28 (dk_at dksX4_keep_6 20 rfl rfl)
theorem dX4_keep_161 : decode cX4_keep 161 = .ok (.imul, 1) := dk_104 (dk_at dksX4_keep_6 21 rfl rfl)
theorem dX4_keep_162 : decode cX4_keep 162 = .ok (.iload_n 3, 1) := dk_29 (dk_at dksX4_keep_6 22 rfl rfl)
theorem dX4_keep_163 : decode cX4_keep 163 = .ok (.iadd, 1) := dk_96 (dk_at dksX4_keep_6 23 rfl rfl)
theorem dX4_keep_164 : decode cX4_keep 164 = .ok (.aload_n 0, 1) := dk_42 (dk_at dksX4_keep_7 0 rfl rfl)
theorem dX4_keep_165 : decode cX4_keep 165 = .ok (.getfield 19, 3) := dk_180 0 19 (dk_at dksX4_keep_7 1 rfl rfl)
theorem dX4_keep_168 : decode cX4_keep 168 = .ok (.bipush 12, 2) := dk_16 12 (dk_at dksX4_keep_7 4 rfl rfl)
theorem dX4_keep_170 : decode cX4_keep 170 = .ok (.iload_n 1, 1) := dk_27 (dk_at dksX4_keep_7 6 rfl rfl)
theorem dX4_keep_171 : decode cX4_keep 171 = .ok (.imul, 1) := dk_104 (dk_at dksX4_keep_7 7 rfl rfl)
theorem dX4_keep_172 : decode cX4_keep 172 = .ok (.iload_n 3, 1) := dk_29 (dk_at dksX4_keep_7 8 rfl rfl)
theorem dX4_keep_173 : decode cX4_keep 173 = .ok (.iadd, 1) := dk_96 (dk_at dksX4_keep_7 9 rfl rfl)
theorem dX4_keep_174 : decode cX4_keep 174 = .ok (.laload, 1) := dk_47 (dk_at dksX4_keep_7 10 rfl rfl)
theorem dX4_keep_175 : decode cX4_keep 175 = .ok (.lastore, 1) := dk_80 (dk_at dksX4_keep_7 11 rfl rfl)
theorem dX4_keep_176 : decode cX4_keep 176 = .ok (.iinc 3 1, 3) := dk_132 3 1 (dk_at dksX4_keep_7 12 rfl rfl)
theorem dX4_keep_179 : decode cX4_keep 179 = .ok (.goto (-31), 3) := dk_167 255 225 (dk_at dksX4_keep_7 15 rfl rfl)
theorem dX4_keep_182 : decode cX4_keep 182 = .ok (.iload_n 2, 1) := dk_28 (dk_at dksX4_keep_7 18 rfl rfl)
theorem dX4_keep_183 : decode cX4_keep 183 = .ok (.ireturn, 1) := dk_172 (dk_at dksX4_keep_7 19 rfl rfl)
abbrev cX4_kept : ByteArray := prog_9_method_51_code
def yX4_kept : MethodName := ⟨RX4, "kept", "(I)I"⟩
def dkwX4_kept_3 : List UInt8 := [180, 0, 33, 16, 12, 27, 104, 28, 96, 47, 80, 132, 2, 1, 167, 255, 222, 42, 182, 0, 64, 172]
abbrev dktX4_kept_3 : List UInt8 := dkwX4_kept_3 ++ []
def dkwX4_kept_2 : List UInt8 := [3, 61, 28, 16, 12, 162, 0, 34, 42, 180, 0, 19, 16, 12, 42, 180, 0, 45, 104, 28, 96, 42]
abbrev dktX4_kept_2 : List UInt8 := dkwX4_kept_2 ++ dktX4_kept_3
def dkwX4_kept_1 : List UInt8 := [16, 60, 160, 0, 6, 16, 252, 172, 42, 42, 180, 0, 52, 42, 180, 0, 55, 42, 180, 0, 23, 182, 0, 60]
abbrev dktX4_kept_1 : List UInt8 := dkwX4_kept_1 ++ dktX4_kept_2
def dkwX4_kept_0 : List UInt8 := [27, 133, 9, 42, 180, 0, 201, 4, 100, 133, 184, 0, 48, 154, 0, 6, 16, 254, 172, 42, 180, 0, 45]
abbrev dktX4_kept_0 : List UInt8 := dkwX4_kept_0 ++ dktX4_kept_1
theorem dksX4_kept_0 : cX4_kept.data.toList.drop 0 = dktX4_kept_0 := by decide +kernel
theorem dksX4_kept_1 : cX4_kept.data.toList.drop 23 = dktX4_kept_1 := dk_seg dksX4_kept_0 23 rfl rfl
theorem dksX4_kept_2 : cX4_kept.data.toList.drop 47 = dktX4_kept_2 := dk_seg dksX4_kept_1 24 rfl rfl
theorem dksX4_kept_3 : cX4_kept.data.toList.drop 69 = dktX4_kept_3 := dk_seg dksX4_kept_2 22 rfl rfl
theorem dX4_kept_0 : decode cX4_kept 0 = .ok (.iload_n 1, 1) := dk_27 (dk_at dksX4_kept_0 0 rfl rfl)
theorem dX4_kept_1 : decode cX4_kept 1 = .ok (.i2l, 1) := dk_133 (dk_at dksX4_kept_0 1 rfl rfl)
theorem dX4_kept_2 : decode cX4_kept 2 = .ok (.lconst 0, 1) := dk_9 (dk_at dksX4_kept_0 2 rfl rfl)
theorem dX4_kept_3 : decode cX4_kept 3 = .ok (.aload_n 0, 1) := dk_42 (dk_at dksX4_kept_0 3 rfl rfl)
theorem dX4_kept_4 : decode cX4_kept 4 = .ok (.getfield 201, 3) := dk_180 0 201 (dk_at dksX4_kept_0 4 rfl rfl)
theorem dX4_kept_7 : decode cX4_kept 7 = .ok (.iconst 1, 1) := dk_4 (dk_at dksX4_kept_0 7 rfl rfl)
theorem dX4_kept_8 : decode cX4_kept 8 = .ok (.isub, 1) := dk_100 (dk_at dksX4_kept_0 8 rfl rfl)
theorem dX4_kept_9 : decode cX4_kept 9 = .ok (.i2l, 1) := dk_133 (dk_at dksX4_kept_0 9 rfl rfl)
theorem dX4_kept_10 : decode cX4_kept 10 = .ok (.invokestatic 48, 3) := dk_184 0 48 (dk_at dksX4_kept_0 10 rfl rfl)
theorem dX4_kept_13 : decode cX4_kept 13 = .ok (.ifCond .ne 6, 3) := dk_154 0 6 (dk_at dksX4_kept_0 13 rfl rfl)
theorem dX4_kept_16 : decode cX4_kept 16 = .ok (.bipush (-2), 2) := dk_16 254 (dk_at dksX4_kept_0 16 rfl rfl)
theorem dX4_kept_18 : decode cX4_kept 18 = .ok (.ireturn, 1) := dk_172 (dk_at dksX4_kept_0 18 rfl rfl)
theorem dX4_kept_19 : decode cX4_kept 19 = .ok (.aload_n 0, 1) := dk_42 (dk_at dksX4_kept_0 19 rfl rfl)
theorem dX4_kept_20 : decode cX4_kept 20 = .ok (.getfield 45, 3) := dk_180 0 45 (dk_at dksX4_kept_0 20 rfl rfl)
theorem dX4_kept_23 : decode cX4_kept 23 = .ok (.bipush 60, 2) := dk_16 60 (dk_at dksX4_kept_1 0 rfl rfl)
theorem dX4_kept_25 : decode cX4_kept 25 = .ok (.if_icmp .ne 6, 3) := dk_160 0 6 (dk_at dksX4_kept_1 2 rfl rfl)
theorem dX4_kept_28 : decode cX4_kept 28 = .ok (.bipush (-4), 2) := dk_16 252 (dk_at dksX4_kept_1 5 rfl rfl)
theorem dX4_kept_30 : decode cX4_kept 30 = .ok (.ireturn, 1) := dk_172 (dk_at dksX4_kept_1 7 rfl rfl)
theorem dX4_kept_31 : decode cX4_kept 31 = .ok (.aload_n 0, 1) := dk_42 (dk_at dksX4_kept_1 8 rfl rfl)
theorem dX4_kept_32 : decode cX4_kept 32 = .ok (.aload_n 0, 1) := dk_42 (dk_at dksX4_kept_1 9 rfl rfl)
theorem dX4_kept_33 : decode cX4_kept 33 = .ok (.getfield 52, 3) := dk_180 0 52 (dk_at dksX4_kept_1 10 rfl rfl)
theorem dX4_kept_36 : decode cX4_kept 36 = .ok (.aload_n 0, 1) := dk_42 (dk_at dksX4_kept_1 13 rfl rfl)
theorem dX4_kept_37 : decode cX4_kept 37 = .ok (.getfield 55, 3) := dk_180 0 55 (dk_at dksX4_kept_1 14 rfl rfl)
theorem dX4_kept_40 : decode cX4_kept 40 = .ok (.aload_n 0, 1) := dk_42 (dk_at dksX4_kept_1 17 rfl rfl)
theorem dX4_kept_41 : decode cX4_kept 41 = .ok (.getfield 23, 3) := dk_180 0 23 (dk_at dksX4_kept_1 18 rfl rfl)
theorem dX4_kept_44 : decode cX4_kept 44 = .ok (.invokevirtual 60, 3) := dk_182 0 60 (dk_at dksX4_kept_1 21 rfl rfl)
theorem dX4_kept_47 : decode cX4_kept 47 = .ok (.iconst 0, 1) := dk_3 (dk_at dksX4_kept_2 0 rfl rfl)
theorem dX4_kept_48 : decode cX4_kept 48 = .ok (.istore_n 2, 1) := dk_61 (dk_at dksX4_kept_2 1 rfl rfl)
theorem dX4_kept_49 : decode cX4_kept 49 = .ok (.iload_n 2, 1) := dk_28 (dk_at dksX4_kept_2 2 rfl rfl)
theorem dX4_kept_50 : decode cX4_kept 50 = .ok (.bipush 12, 2) := dk_16 12 (dk_at dksX4_kept_2 3 rfl rfl)
theorem dX4_kept_52 : decode cX4_kept 52 = .ok (.if_icmp .ge 34, 3) := dk_162 0 34 (dk_at dksX4_kept_2 5 rfl rfl)
theorem dX4_kept_55 : decode cX4_kept 55 = .ok (.aload_n 0, 1) := dk_42 (dk_at dksX4_kept_2 8 rfl rfl)
theorem dX4_kept_56 : decode cX4_kept 56 = .ok (.getfield 19, 3) := dk_180 0 19 (dk_at dksX4_kept_2 9 rfl rfl)
theorem dX4_kept_59 : decode cX4_kept 59 = .ok (.bipush 12, 2) := dk_16 12 (dk_at dksX4_kept_2 12 rfl rfl)
theorem dX4_kept_61 : decode cX4_kept 61 = .ok (.aload_n 0, 1) := dk_42 (dk_at dksX4_kept_2 14 rfl rfl)
theorem dX4_kept_62 : decode cX4_kept 62 = .ok (.getfield 45, 3) := dk_180 0 45 (dk_at dksX4_kept_2 15 rfl rfl)
theorem dX4_kept_65 : decode cX4_kept 65 = .ok (.imul, 1) := dk_104 (dk_at dksX4_kept_2 18 rfl rfl)
theorem dX4_kept_66 : decode cX4_kept 66 = .ok (.iload_n 2, 1) := dk_28 (dk_at dksX4_kept_2 19 rfl rfl)
theorem dX4_kept_67 : decode cX4_kept 67 = .ok (.iadd, 1) := dk_96 (dk_at dksX4_kept_2 20 rfl rfl)
theorem dX4_kept_68 : decode cX4_kept 68 = .ok (.aload_n 0, 1) := dk_42 (dk_at dksX4_kept_2 21 rfl rfl)
theorem dX4_kept_69 : decode cX4_kept 69 = .ok (.getfield 33, 3) := dk_180 0 33 (dk_at dksX4_kept_3 0 rfl rfl)
theorem dX4_kept_72 : decode cX4_kept 72 = .ok (.bipush 12, 2) := dk_16 12 (dk_at dksX4_kept_3 3 rfl rfl)
theorem dX4_kept_74 : decode cX4_kept 74 = .ok (.iload_n 1, 1) := dk_27 (dk_at dksX4_kept_3 5 rfl rfl)
theorem dX4_kept_75 : decode cX4_kept 75 = .ok (.imul, 1) := dk_104 (dk_at dksX4_kept_3 6 rfl rfl)
theorem dX4_kept_76 : decode cX4_kept 76 = .ok (.iload_n 2, 1) := dk_28 (dk_at dksX4_kept_3 7 rfl rfl)
theorem dX4_kept_77 : decode cX4_kept 77 = .ok (.iadd, 1) := dk_96 (dk_at dksX4_kept_3 8 rfl rfl)
theorem dX4_kept_78 : decode cX4_kept 78 = .ok (.laload, 1) := dk_47 (dk_at dksX4_kept_3 9 rfl rfl)
theorem dX4_kept_79 : decode cX4_kept 79 = .ok (.lastore, 1) := dk_80 (dk_at dksX4_kept_3 10 rfl rfl)
theorem dX4_kept_80 : decode cX4_kept 80 = .ok (.iinc 2 1, 3) := dk_132 2 1 (dk_at dksX4_kept_3 11 rfl rfl)
theorem dX4_kept_83 : decode cX4_kept 83 = .ok (.goto (-34), 3) := dk_167 255 222 (dk_at dksX4_kept_3 14 rfl rfl)
theorem dX4_kept_86 : decode cX4_kept 86 = .ok (.aload_n 0, 1) := dk_42 (dk_at dksX4_kept_3 17 rfl rfl)
theorem dX4_kept_87 : decode cX4_kept 87 = .ok (.invokevirtual 64, 3) := dk_182 0 64 (dk_at dksX4_kept_3 18 rfl rfl)
theorem dX4_kept_90 : decode cX4_kept 90 = .ok (.ireturn, 1) := dk_172 (dk_at dksX4_kept_3 21 rfl rfl)
abbrev cX4_many : ByteArray := prog_9_method_52_code
def yX4_many : MethodName := ⟨RX4, "many", "(I)I"⟩
def dkwX4_many_3 : List UInt8 := [172, 16, 253, 172]
abbrev dktX4_many_3 : List UInt8 := dkwX4_many_3 ++ []
def dkwX4_many_2 : List UInt8 := [42, 180, 0, 45, 172, 42, 180, 0, 198, 172, 42, 180, 0, 201, 172, 42, 180, 0, 124, 172, 42, 180, 0, 178]
abbrev dktX4_many_2 : List UInt8 := dkwX4_many_2 ++ dktX4_many_3
def dkwX4_many_1 : List UInt8 := [170, 0, 0, 0, 0, 0, 60, 0, 0, 0, 0, 0, 0, 0, 4, 0, 0, 0, 35, 0, 0, 0, 40, 0, 0, 0, 45, 0, 0, 0, 50, 0, 0, 0, 55]
abbrev dktX4_many_1 : List UInt8 := dkwX4_many_1 ++ dktX4_many_2
def dkwX4_many_0 : List UInt8 := [27]
abbrev dktX4_many_0 : List UInt8 := dkwX4_many_0 ++ dktX4_many_1
theorem dksX4_many_0 : cX4_many.data.toList.drop 0 = dktX4_many_0 := by decide +kernel
theorem dksX4_many_1 : cX4_many.data.toList.drop 1 = dktX4_many_1 := dk_seg dksX4_many_0 1 rfl rfl
theorem dksX4_many_2 : cX4_many.data.toList.drop 36 = dktX4_many_2 := dk_seg dksX4_many_1 35 rfl rfl
theorem dksX4_many_3 : cX4_many.data.toList.drop 60 = dktX4_many_3 := dk_seg dksX4_many_2 24 rfl rfl
theorem dX4_many_0 : decode cX4_many 0 = .ok (.iload_n 1, 1) := dk_27 (dk_at dksX4_many_0 0 rfl rfl)
theorem dX4_many_1 : decode cX4_many 1 = .ok (.tableswitch 60 0 4 #[35, 40, 45, 50, 55], 35) := by decide +kernel
theorem dX4_many_36 : decode cX4_many 36 = .ok (.aload_n 0, 1) := dk_42 (dk_at dksX4_many_2 0 rfl rfl)
theorem dX4_many_37 : decode cX4_many 37 = .ok (.getfield 45, 3) := dk_180 0 45 (dk_at dksX4_many_2 1 rfl rfl)
theorem dX4_many_40 : decode cX4_many 40 = .ok (.ireturn, 1) := dk_172 (dk_at dksX4_many_2 4 rfl rfl)
theorem dX4_many_41 : decode cX4_many 41 = .ok (.aload_n 0, 1) := dk_42 (dk_at dksX4_many_2 5 rfl rfl)
theorem dX4_many_42 : decode cX4_many 42 = .ok (.getfield 198, 3) := dk_180 0 198 (dk_at dksX4_many_2 6 rfl rfl)
theorem dX4_many_45 : decode cX4_many 45 = .ok (.ireturn, 1) := dk_172 (dk_at dksX4_many_2 9 rfl rfl)
theorem dX4_many_46 : decode cX4_many 46 = .ok (.aload_n 0, 1) := dk_42 (dk_at dksX4_many_2 10 rfl rfl)
theorem dX4_many_47 : decode cX4_many 47 = .ok (.getfield 201, 3) := dk_180 0 201 (dk_at dksX4_many_2 11 rfl rfl)
theorem dX4_many_50 : decode cX4_many 50 = .ok (.ireturn, 1) := dk_172 (dk_at dksX4_many_2 14 rfl rfl)
theorem dX4_many_51 : decode cX4_many 51 = .ok (.aload_n 0, 1) := dk_42 (dk_at dksX4_many_2 15 rfl rfl)
theorem dX4_many_52 : decode cX4_many 52 = .ok (.getfield 124, 3) := dk_180 0 124 (dk_at dksX4_many_2 16 rfl rfl)
theorem dX4_many_55 : decode cX4_many 55 = .ok (.ireturn, 1) := dk_172 (dk_at dksX4_many_2 19 rfl rfl)
theorem dX4_many_56 : decode cX4_many 56 = .ok (.aload_n 0, 1) := dk_42 (dk_at dksX4_many_2 20 rfl rfl)
theorem dX4_many_57 : decode cX4_many 57 = .ok (.getfield 178, 3) := dk_180 0 178 (dk_at dksX4_many_2 21 rfl rfl)
theorem dX4_many_60 : decode cX4_many 60 = .ok (.ireturn, 1) := dk_172 (dk_at dksX4_many_3 0 rfl rfl)
theorem dX4_many_61 : decode cX4_many 61 = .ok (.bipush (-3), 2) := dk_16 253 (dk_at dksX4_many_3 1 rfl rfl)
theorem dX4_many_63 : decode cX4_many 63 = .ok (.ireturn, 1) := dk_172 (dk_at dksX4_many_3 3 rfl rfl)
abbrev cX4_drop : ByteArray := prog_9_method_53_code
def yX4_drop : MethodName := ⟨RX4, "drop", "()I"⟩
def dkwX4_drop_1 : List UInt8 := [172]
abbrev dktX4_drop_1 : List UInt8 := dkwX4_drop_1 ++ []
def dkwX4_drop_0 : List UInt8 := [42, 180, 0, 45, 154, 0, 6, 16, 254, 172, 42, 89, 180, 0, 45, 4, 100, 181, 0, 45, 42, 180, 0, 45]
abbrev dktX4_drop_0 : List UInt8 := dkwX4_drop_0 ++ dktX4_drop_1
theorem dksX4_drop_0 : cX4_drop.data.toList.drop 0 = dktX4_drop_0 := by decide +kernel
theorem dksX4_drop_1 : cX4_drop.data.toList.drop 24 = dktX4_drop_1 := dk_seg dksX4_drop_0 24 rfl rfl
theorem dX4_drop_0 : decode cX4_drop 0 = .ok (.aload_n 0, 1) := dk_42 (dk_at dksX4_drop_0 0 rfl rfl)
theorem dX4_drop_1 : decode cX4_drop 1 = .ok (.getfield 45, 3) := dk_180 0 45 (dk_at dksX4_drop_0 1 rfl rfl)
theorem dX4_drop_4 : decode cX4_drop 4 = .ok (.ifCond .ne 6, 3) := dk_154 0 6 (dk_at dksX4_drop_0 4 rfl rfl)
theorem dX4_drop_7 : decode cX4_drop 7 = .ok (.bipush (-2), 2) := dk_16 254 (dk_at dksX4_drop_0 7 rfl rfl)
theorem dX4_drop_9 : decode cX4_drop 9 = .ok (.ireturn, 1) := dk_172 (dk_at dksX4_drop_0 9 rfl rfl)
theorem dX4_drop_10 : decode cX4_drop 10 = .ok (.aload_n 0, 1) := dk_42 (dk_at dksX4_drop_0 10 rfl rfl)
theorem dX4_drop_11 : decode cX4_drop 11 = .ok (.dup, 1) := dk_89 (dk_at dksX4_drop_0 11 rfl rfl)
theorem dX4_drop_12 : decode cX4_drop 12 = .ok (.getfield 45, 3) := dk_180 0 45 (dk_at dksX4_drop_0 12 rfl rfl)
theorem dX4_drop_15 : decode cX4_drop 15 = .ok (.iconst 1, 1) := dk_4 (dk_at dksX4_drop_0 15 rfl rfl)
theorem dX4_drop_16 : decode cX4_drop 16 = .ok (.isub, 1) := dk_100 (dk_at dksX4_drop_0 16 rfl rfl)
theorem dX4_drop_17 : decode cX4_drop 17 = .ok (.putfield 45, 3) := dk_181 0 45 (dk_at dksX4_drop_0 17 rfl rfl)
theorem dX4_drop_20 : decode cX4_drop 20 = .ok (.aload_n 0, 1) := dk_42 (dk_at dksX4_drop_0 20 rfl rfl)
theorem dX4_drop_21 : decode cX4_drop 21 = .ok (.getfield 45, 3) := dk_180 0 45 (dk_at dksX4_drop_0 21 rfl rfl)
theorem dX4_drop_24 : decode cX4_drop 24 = .ok (.ireturn, 1) := dk_172 (dk_at dksX4_drop_1 0 rfl rfl)
theorem q57 : (Jvm.Cond.initialized "LevelScoresModel") ∈ lw_all := lw_g (lw_at lw_m1 4 rfl) rfl
theorem q836 : (Jvm.Cond.instantiable "LevelScoresModel" (24 : Nat)) ∈ lw_all := lw_g (lw_at lw_m4 63 rfl) rfl
theorem q838 : (Jvm.Cond.instanceMethod ({ cls := "LevelScoresModel", name := "<init>", desc := "()V" } : Jvm.MethodName)) ∈ lw_all := lw_g (lw_at lw_m4 65 rfl) rfl
theorem q839 : (Jvm.Cond.code ({ cls := "LevelScoresModel", name := "<init>", desc := "()V" } : Jvm.MethodName) prog_9_method_1_code (1 : Nat) (Option.none : Option Jvm.ClassFile.FieldType)) ∈ lw_all := lw_g (lw_at lw_m4 66 rfl) rfl
theorem q840 : (Jvm.Cond.methodLink "LevelScoresModel" (1 : Nat) ({ cls := "java/lang/Object", name := "<init>", desc := "()V" } : Jvm.MethodName)) ∈ lw_all := lw_g (lw_at lw_m4 67 rfl) rfl
theorem q841 : (Jvm.Cond.fieldLink "LevelScoresModel" (45 : Nat) "LevelScoresModel" "scores" "I") ∈ lw_all := lw_g (lw_at lw_m4 68 rfl) rfl
theorem q842 : (Jvm.Cond.fieldLink "LevelScoresModel" (7 : Nat) "LevelScoresModel" "shapes" "[I") ∈ lw_all := lw_g (lw_at lw_m4 69 rfl) rfl
theorem q843 : (Jvm.Cond.fieldLink "LevelScoresModel" (13 : Nat) "LevelScoresModel" "hards" "[I") ∈ lw_all := lw_g (lw_at lw_m4 70 rfl) rfl
theorem q844 : (Jvm.Cond.fieldLink "LevelScoresModel" (16 : Nat) "LevelScoresModel" "sizes" "[I") ∈ lw_all := lw_g (lw_at lw_m4 71 rfl) rfl
theorem q845 : (Jvm.Cond.fieldLink "LevelScoresModel" (19 : Nat) "LevelScoresModel" "levels" "[J") ∈ lw_all := lw_g (lw_at lw_m4 72 rfl) rfl
theorem q846 : (Jvm.Cond.fieldLink "LevelScoresModel" (52 : Nat) "LevelScoresModel" "planShape" "I") ∈ lw_all := lw_g (lw_at lw_m4 73 rfl) rfl
theorem q847 : (Jvm.Cond.fieldLink "LevelScoresModel" (55 : Nat) "LevelScoresModel" "planHard" "I") ∈ lw_all := lw_g (lw_at lw_m4 74 rfl) rfl
theorem q848 : (Jvm.Cond.fieldLink "LevelScoresModel" (23 : Nat) "LevelScoresModel" "planSize" "I") ∈ lw_all := lw_g (lw_at lw_m4 75 rfl) rfl
theorem q849 : (Jvm.Cond.fieldLink "LevelScoresModel" (198 : Nat) "LevelScoresModel" "rules" "I") ∈ lw_all := lw_g (lw_at lw_m4 76 rfl) rfl
theorem q850 : (Jvm.Cond.fieldLink "LevelScoresModel" (27 : Nat) "LevelScoresModel" "weights" "[J") ∈ lw_all := lw_g (lw_at lw_m4 77 rfl) rfl
theorem q851 : (Jvm.Cond.fieldLink "LevelScoresModel" (30 : Nat) "LevelScoresModel" "counts" "[I") ∈ lw_all := lw_g (lw_at lw_m4 78 rfl) rfl
theorem q852 : (Jvm.Cond.fieldLink "LevelScoresModel" (201 : Nat) "LevelScoresModel" "kept" "I") ∈ lw_all := lw_g (lw_at lw_m4 79 rfl) rfl
theorem q853 : (Jvm.Cond.fieldLink "LevelScoresModel" (33 : Nat) "LevelScoresModel" "keeps" "[J") ∈ lw_all := lw_g (lw_at lw_m4 80 rfl) rfl
theorem q854 : (Jvm.Cond.fieldLink "LevelScoresModel" (124 : Nat) "LevelScoresModel" "tapeSize" "I") ∈ lw_all := lw_g (lw_at lw_m4 81 rfl) rfl
theorem q855 : (Jvm.Cond.fieldLink "LevelScoresModel" (36 : Nat) "LevelScoresModel" "tape" "[I") ∈ lw_all := lw_g (lw_at lw_m4 82 rfl) rfl
theorem q856 : (Jvm.Cond.fieldLink "LevelScoresModel" (178 : Nat) "LevelScoresModel" "outSize" "I") ∈ lw_all := lw_g (lw_at lw_m4 83 rfl) rfl
theorem q857 : (Jvm.Cond.fieldLink "LevelScoresModel" (39 : Nat) "LevelScoresModel" "out" "[I") ∈ lw_all := lw_g (lw_at lw_m4 84 rfl) rfl
theorem q858 : (Jvm.Cond.fieldLink "LevelScoresModel" (75 : Nat) "LevelScoresModel" "thrown" "I") ∈ lw_all := lw_g (lw_at lw_m4 85 rfl) rfl
theorem q859 : (Jvm.Cond.fieldLink "LevelScoresModel" (78 : Nat) "LevelScoresModel" "high" "J") ∈ lw_all := lw_g (lw_at lw_m4 86 rfl) rfl
theorem q860 : (Jvm.Cond.fieldLink "LevelScoresModel" (82 : Nat) "LevelScoresModel" "low" "J") ∈ lw_all := lw_g (lw_at lw_m4 87 rfl) rfl
theorem q861 : (Jvm.Cond.fieldLink "LevelScoresModel" (127 : Nat) "LevelScoresModel" "place" "I") ∈ lw_all := lw_g (lw_at lw_m4 88 rfl) rfl
theorem q862 : (Jvm.Cond.fieldLink "LevelScoresModel" (137 : Nat) "LevelScoresModel" "stuck" "Z") ∈ lw_all := lw_g (lw_at lw_m4 89 rfl) rfl
theorem q863 : (Jvm.Cond.fieldLink "LevelScoresModel" (156 : Nat) "LevelScoresModel" "read" "J") ∈ lw_all := lw_g (lw_at lw_m4 90 rfl) rfl
theorem q864 : (Jvm.Cond.fieldLink "LevelScoresModel" (42 : Nat) "LevelScoresModel" "had" "[J") ∈ lw_all := lw_g (lw_at lw_m4 91 rfl) rfl
theorem q865 : (Jvm.Cond.lays "LevelScoresModel" "LevelScoresModel" "scores" "I") ∈ lw_all := lw_g (lw_at lw_m4 92 rfl) rfl
theorem q866 : (Jvm.Cond.soleField "LevelScoresModel" "scores") ∈ lw_all := lw_g (lw_at lw_m4 93 rfl) rfl
theorem q867 : (Jvm.Cond.laysFinal "LevelScoresModel" "LevelScoresModel" "shapes" "[I") ∈ lw_all := lw_g (lw_at lw_m4 94 rfl) rfl
theorem q868 : (Jvm.Cond.soleField "LevelScoresModel" "shapes") ∈ lw_all := lw_g (lw_at lw_m4 95 rfl) rfl
theorem q869 : (Jvm.Cond.laysFinal "LevelScoresModel" "LevelScoresModel" "hards" "[I") ∈ lw_all := lw_g (lw_at lw_m4 96 rfl) rfl
theorem q870 : (Jvm.Cond.soleField "LevelScoresModel" "hards") ∈ lw_all := lw_g (lw_at lw_m4 97 rfl) rfl
theorem q871 : (Jvm.Cond.laysFinal "LevelScoresModel" "LevelScoresModel" "sizes" "[I") ∈ lw_all := lw_g (lw_at lw_m4 98 rfl) rfl
theorem q872 : (Jvm.Cond.soleField "LevelScoresModel" "sizes") ∈ lw_all := lw_g (lw_at lw_m4 99 rfl) rfl
theorem q873 : (Jvm.Cond.laysFinal "LevelScoresModel" "LevelScoresModel" "levels" "[J") ∈ lw_all := lw_g (lw_at lw_m4 100 rfl) rfl
theorem q874 : (Jvm.Cond.soleField "LevelScoresModel" "levels") ∈ lw_all := lw_g (lw_at lw_m4 101 rfl) rfl
theorem q875 : (Jvm.Cond.lays "LevelScoresModel" "LevelScoresModel" "planShape" "I") ∈ lw_all := lw_g (lw_at lw_m4 102 rfl) rfl
theorem q876 : (Jvm.Cond.soleField "LevelScoresModel" "planShape") ∈ lw_all := lw_g (lw_at lw_m4 103 rfl) rfl
theorem q877 : (Jvm.Cond.lays "LevelScoresModel" "LevelScoresModel" "planHard" "I") ∈ lw_all := lw_g (lw_at lw_m4 104 rfl) rfl
theorem q878 : (Jvm.Cond.soleField "LevelScoresModel" "planHard") ∈ lw_all := lw_g (lw_at lw_m4 105 rfl) rfl
theorem q879 : (Jvm.Cond.lays "LevelScoresModel" "LevelScoresModel" "planSize" "I") ∈ lw_all := lw_g (lw_at lw_m4 106 rfl) rfl
theorem q880 : (Jvm.Cond.soleField "LevelScoresModel" "planSize") ∈ lw_all := lw_g (lw_at lw_m4 107 rfl) rfl
theorem q881 : (Jvm.Cond.lays "LevelScoresModel" "LevelScoresModel" "rules" "I") ∈ lw_all := lw_g (lw_at lw_m4 108 rfl) rfl
theorem q882 : (Jvm.Cond.soleField "LevelScoresModel" "rules") ∈ lw_all := lw_g (lw_at lw_m4 109 rfl) rfl
theorem q883 : (Jvm.Cond.laysFinal "LevelScoresModel" "LevelScoresModel" "weights" "[J") ∈ lw_all := lw_g (lw_at lw_m4 110 rfl) rfl
theorem q884 : (Jvm.Cond.soleField "LevelScoresModel" "weights") ∈ lw_all := lw_g (lw_at lw_m4 111 rfl) rfl
theorem q885 : (Jvm.Cond.laysFinal "LevelScoresModel" "LevelScoresModel" "counts" "[I") ∈ lw_all := lw_g (lw_at lw_m4 112 rfl) rfl
theorem q886 : (Jvm.Cond.soleField "LevelScoresModel" "counts") ∈ lw_all := lw_g (lw_at lw_m4 113 rfl) rfl
theorem q887 : (Jvm.Cond.lays "LevelScoresModel" "LevelScoresModel" "kept" "I") ∈ lw_all := lw_g (lw_at lw_m4 114 rfl) rfl
theorem q888 : (Jvm.Cond.soleField "LevelScoresModel" "kept") ∈ lw_all := lw_g (lw_at lw_m4 115 rfl) rfl
theorem q889 : (Jvm.Cond.laysFinal "LevelScoresModel" "LevelScoresModel" "keeps" "[J") ∈ lw_all := lw_g (lw_at lw_m4 116 rfl) rfl
theorem q890 : (Jvm.Cond.soleField "LevelScoresModel" "keeps") ∈ lw_all := lw_g (lw_at lw_m4 117 rfl) rfl
theorem q891 : (Jvm.Cond.lays "LevelScoresModel" "LevelScoresModel" "tapeSize" "I") ∈ lw_all := lw_g (lw_at lw_m4 118 rfl) rfl
theorem q892 : (Jvm.Cond.soleField "LevelScoresModel" "tapeSize") ∈ lw_all := lw_g (lw_at lw_m4 119 rfl) rfl
theorem q893 : (Jvm.Cond.laysFinal "LevelScoresModel" "LevelScoresModel" "tape" "[I") ∈ lw_all := lw_g (lw_at lw_m4 120 rfl) rfl
theorem q894 : (Jvm.Cond.soleField "LevelScoresModel" "tape") ∈ lw_all := lw_g (lw_at lw_m4 121 rfl) rfl
theorem q895 : (Jvm.Cond.lays "LevelScoresModel" "LevelScoresModel" "outSize" "I") ∈ lw_all := lw_g (lw_at lw_m4 122 rfl) rfl
theorem q896 : (Jvm.Cond.soleField "LevelScoresModel" "outSize") ∈ lw_all := lw_g (lw_at lw_m4 123 rfl) rfl
theorem q897 : (Jvm.Cond.laysFinal "LevelScoresModel" "LevelScoresModel" "out" "[I") ∈ lw_all := lw_g (lw_at lw_m4 124 rfl) rfl
theorem q898 : (Jvm.Cond.soleField "LevelScoresModel" "out") ∈ lw_all := lw_g (lw_at lw_m4 125 rfl) rfl
theorem q899 : (Jvm.Cond.lays "LevelScoresModel" "LevelScoresModel" "thrown" "I") ∈ lw_all := lw_g (lw_at lw_m4 126 rfl) rfl
theorem q900 : (Jvm.Cond.soleField "LevelScoresModel" "thrown") ∈ lw_all := lw_g (lw_at lw_m4 127 rfl) rfl
theorem q901 : (Jvm.Cond.lays "LevelScoresModel" "LevelScoresModel" "high" "J") ∈ lw_all := lw_g (lw_at lw_m4 128 rfl) rfl
theorem q902 : (Jvm.Cond.soleField "LevelScoresModel" "high") ∈ lw_all := lw_g (lw_at lw_m4 129 rfl) rfl
theorem q903 : (Jvm.Cond.lays "LevelScoresModel" "LevelScoresModel" "low" "J") ∈ lw_all := lw_g (lw_at lw_m4 130 rfl) rfl
theorem q904 : (Jvm.Cond.soleField "LevelScoresModel" "low") ∈ lw_all := lw_g (lw_at lw_m4 131 rfl) rfl
theorem q905 : (Jvm.Cond.lays "LevelScoresModel" "LevelScoresModel" "place" "I") ∈ lw_all := lw_g (lw_at lw_m4 132 rfl) rfl
theorem q906 : (Jvm.Cond.soleField "LevelScoresModel" "place") ∈ lw_all := lw_g (lw_at lw_m4 133 rfl) rfl
theorem q907 : (Jvm.Cond.lays "LevelScoresModel" "LevelScoresModel" "stuck" "Z") ∈ lw_all := lw_g (lw_at lw_m4 134 rfl) rfl
theorem q908 : (Jvm.Cond.soleField "LevelScoresModel" "stuck") ∈ lw_all := lw_g (lw_at lw_m4 135 rfl) rfl
theorem q909 : (Jvm.Cond.lays "LevelScoresModel" "LevelScoresModel" "read" "J") ∈ lw_all := lw_g (lw_at lw_m4 136 rfl) rfl
theorem q910 : (Jvm.Cond.soleField "LevelScoresModel" "read") ∈ lw_all := lw_g (lw_at lw_m4 137 rfl) rfl
theorem q911 : (Jvm.Cond.laysFinal "LevelScoresModel" "LevelScoresModel" "had" "[J") ∈ lw_all := lw_g (lw_at lw_m4 138 rfl) rfl
theorem q912 : (Jvm.Cond.soleField "LevelScoresModel" "had") ∈ lw_all := lw_g (lw_at lw_m4 139 rfl) rfl
theorem q913 : (Jvm.Cond.superclass "LevelScoresModel" "java/lang/Object") ∈ lw_all := lw_g (lw_at lw_m4 140 rfl) rfl
theorem q915 : (Jvm.Cond.instanceMethod ({ cls := "LevelScoresModel", name := "make", desc := "(III)I" } : Jvm.MethodName)) ∈ lw_all := lw_g (lw_at lw_m4 142 rfl) rfl
theorem q916 : (Jvm.Cond.selects "LevelScoresModel" ({ cls := "LevelScoresModel", name := "make", desc := "(III)I" } : Jvm.MethodName) ({ cls := "LevelScoresModel", name := "make", desc := "(III)I" } : Jvm.MethodName)) ∈ lw_all := lw_g (lw_at lw_m4 143 rfl) rfl
theorem q917 : (Jvm.Cond.code ({ cls := "LevelScoresModel", name := "make", desc := "(III)I" } : Jvm.MethodName) prog_9_method_9_code (4 : Nat) (Option.some Jvm.ClassFile.FieldType.int)) ∈ lw_all := lw_g (lw_at lw_m4 144 rfl) rfl
theorem q918 : (Jvm.Cond.constantLong "LevelScoresModel" (58 : Nat) (3 : Int64)) ∈ lw_all := lw_g (lw_at lw_m4 145 rfl) rfl
theorem q919 : (Jvm.Cond.methodLink "LevelScoresModel" (48 : Nat) ({ cls := "LevelScoresModel", name := "in", desc := "(JJJ)Z" } : Jvm.MethodName)) ∈ lw_all := lw_g (lw_at lw_m4 146 rfl) rfl
theorem q920 : (Jvm.Cond.static ({ cls := "LevelScoresModel", name := "in", desc := "(JJJ)Z" } : Jvm.MethodName)) ∈ lw_all := lw_g (lw_at lw_m4 147 rfl) rfl
theorem q921 : (Jvm.Cond.code ({ cls := "LevelScoresModel", name := "in", desc := "(JJJ)Z" } : Jvm.MethodName) prog_9_method_2_code (6 : Nat) (Option.some Jvm.ClassFile.FieldType.boolean)) ∈ lw_all := lw_g (lw_at lw_m4 148 rfl) rfl
theorem q922 : (Jvm.Cond.methodLink "LevelScoresModel" (60 : Nat) ({ cls := "LevelScoresModel", name := "lay", desc := "(III)V" } : Jvm.MethodName)) ∈ lw_all := lw_g (lw_at lw_m4 149 rfl) rfl
theorem q923 : (Jvm.Cond.privateMethod ({ cls := "LevelScoresModel", name := "lay", desc := "(III)V" } : Jvm.MethodName)) ∈ lw_tbl := lw_at lw_m4 150 rfl
theorem q924 : (Jvm.Cond.instanceMethod ({ cls := "LevelScoresModel", name := "lay", desc := "(III)V" } : Jvm.MethodName)) ∈ lw_all := lw_g (lw_at lw_m4 151 rfl) rfl
theorem q925 : (Jvm.Cond.code ({ cls := "LevelScoresModel", name := "lay", desc := "(III)V" } : Jvm.MethodName) prog_9_method_7_code (5 : Nat) (Option.none : Option Jvm.ClassFile.FieldType)) ∈ lw_all := lw_g (lw_at lw_m4 152 rfl) rfl
theorem q926 : (Jvm.Cond.methodLink "LevelScoresModel" (64 : Nat) ({ cls := "LevelScoresModel", name := "keepScore", desc := "()I" } : Jvm.MethodName)) ∈ lw_all := lw_g (lw_at lw_m4 153 rfl) rfl
theorem q927 : (Jvm.Cond.privateMethod ({ cls := "LevelScoresModel", name := "keepScore", desc := "()I" } : Jvm.MethodName)) ∈ lw_tbl := lw_at lw_m4 154 rfl
theorem q928 : (Jvm.Cond.instanceMethod ({ cls := "LevelScoresModel", name := "keepScore", desc := "()I" } : Jvm.MethodName)) ∈ lw_all := lw_g (lw_at lw_m4 155 rfl) rfl
theorem q929 : (Jvm.Cond.code ({ cls := "LevelScoresModel", name := "keepScore", desc := "()I" } : Jvm.MethodName) prog_9_method_8_code (1 : Nat) (Option.some Jvm.ClassFile.FieldType.int)) ∈ lw_all := lw_g (lw_at lw_m4 156 rfl) rfl
theorem q931 : (Jvm.Cond.instanceMethod ({ cls := "LevelScoresModel", name := "nothing", desc := "()I" } : Jvm.MethodName)) ∈ lw_all := lw_g (lw_at lw_m4 158 rfl) rfl
theorem q932 : (Jvm.Cond.selects "LevelScoresModel" ({ cls := "LevelScoresModel", name := "nothing", desc := "()I" } : Jvm.MethodName) ({ cls := "LevelScoresModel", name := "nothing", desc := "()I" } : Jvm.MethodName)) ∈ lw_all := lw_g (lw_at lw_m4 159 rfl) rfl
theorem q933 : (Jvm.Cond.code ({ cls := "LevelScoresModel", name := "nothing", desc := "()I" } : Jvm.MethodName) prog_9_method_10_code (1 : Nat) (Option.some Jvm.ClassFile.FieldType.int)) ∈ lw_all := lw_g (lw_at lw_m4 160 rfl) rfl
theorem q935 : (Jvm.Cond.instanceMethod ({ cls := "LevelScoresModel", name := "set", desc := "(IIJ)I" } : Jvm.MethodName)) ∈ lw_all := lw_g (lw_at lw_m4 162 rfl) rfl
theorem q936 : (Jvm.Cond.selects "LevelScoresModel" ({ cls := "LevelScoresModel", name := "set", desc := "(IIJ)I" } : Jvm.MethodName) ({ cls := "LevelScoresModel", name := "set", desc := "(IIJ)I" } : Jvm.MethodName)) ∈ lw_all := lw_g (lw_at lw_m4 163 rfl) rfl
theorem q937 : (Jvm.Cond.code ({ cls := "LevelScoresModel", name := "set", desc := "(IIJ)I" } : Jvm.MethodName) prog_9_method_11_code (5 : Nat) (Option.some Jvm.ClassFile.FieldType.int)) ∈ lw_all := lw_g (lw_at lw_m4 164 rfl) rfl
theorem q938 : (Jvm.Cond.methodLink "LevelScoresModel" (68 : Nat) ({ cls := "LevelScoresModel", name := "isNumber", desc := "(I)Z" } : Jvm.MethodName)) ∈ lw_all := lw_g (lw_at lw_m4 165 rfl) rfl
theorem q939 : (Jvm.Cond.privateMethod ({ cls := "LevelScoresModel", name := "isNumber", desc := "(I)Z" } : Jvm.MethodName)) ∈ lw_tbl := lw_at lw_m4 166 rfl
theorem q940 : (Jvm.Cond.instanceMethod ({ cls := "LevelScoresModel", name := "isNumber", desc := "(I)Z" } : Jvm.MethodName)) ∈ lw_all := lw_g (lw_at lw_m4 167 rfl) rfl
theorem q941 : (Jvm.Cond.code ({ cls := "LevelScoresModel", name := "isNumber", desc := "(I)Z" } : Jvm.MethodName) prog_9_method_3_code (2 : Nat) (Option.some Jvm.ClassFile.FieldType.boolean)) ∈ lw_all := lw_g (lw_at lw_m4 168 rfl) rfl
theorem q942 : (Jvm.Cond.methodLink "LevelScoresModel" (72 : Nat) ({ cls := "LevelScoresModel", name := "isNothing", desc := "(I)Z" } : Jvm.MethodName)) ∈ lw_all := lw_g (lw_at lw_m4 169 rfl) rfl
theorem q943 : (Jvm.Cond.privateMethod ({ cls := "LevelScoresModel", name := "isNothing", desc := "(I)Z" } : Jvm.MethodName)) ∈ lw_tbl := lw_at lw_m4 170 rfl
theorem q944 : (Jvm.Cond.instanceMethod ({ cls := "LevelScoresModel", name := "isNothing", desc := "(I)Z" } : Jvm.MethodName)) ∈ lw_all := lw_g (lw_at lw_m4 171 rfl) rfl
theorem q945 : (Jvm.Cond.code ({ cls := "LevelScoresModel", name := "isNothing", desc := "(I)Z" } : Jvm.MethodName) prog_9_method_4_code (2 : Nat) (Option.some Jvm.ClassFile.FieldType.boolean)) ∈ lw_all := lw_g (lw_at lw_m4 172 rfl) rfl
theorem q947 : (Jvm.Cond.instanceMethod ({ cls := "LevelScoresModel", name := "thrown", desc := "()I" } : Jvm.MethodName)) ∈ lw_all := lw_g (lw_at lw_m4 174 rfl) rfl
theorem q948 : (Jvm.Cond.selects "LevelScoresModel" ({ cls := "LevelScoresModel", name := "thrown", desc := "()I" } : Jvm.MethodName) ({ cls := "LevelScoresModel", name := "thrown", desc := "()I" } : Jvm.MethodName)) ∈ lw_all := lw_g (lw_at lw_m4 175 rfl) rfl
theorem q949 : (Jvm.Cond.code ({ cls := "LevelScoresModel", name := "thrown", desc := "()I" } : Jvm.MethodName) prog_9_method_12_code (1 : Nat) (Option.some Jvm.ClassFile.FieldType.int)) ∈ lw_all := lw_g (lw_at lw_m4 176 rfl) rfl
theorem q951 : (Jvm.Cond.instanceMethod ({ cls := "LevelScoresModel", name := "at", desc := "(II)J" } : Jvm.MethodName)) ∈ lw_all := lw_g (lw_at lw_m4 178 rfl) rfl
theorem q952 : (Jvm.Cond.selects "LevelScoresModel" ({ cls := "LevelScoresModel", name := "at", desc := "(II)J" } : Jvm.MethodName) ({ cls := "LevelScoresModel", name := "at", desc := "(II)J" } : Jvm.MethodName)) ∈ lw_all := lw_g (lw_at lw_m4 179 rfl) rfl
theorem q953 : (Jvm.Cond.code ({ cls := "LevelScoresModel", name := "at", desc := "(II)J" } : Jvm.MethodName) prog_9_method_13_code (3 : Nat) (Option.some Jvm.ClassFile.FieldType.long)) ∈ lw_all := lw_g (lw_at lw_m4 180 rfl) rfl
theorem q955 : (Jvm.Cond.instanceMethod ({ cls := "LevelScoresModel", name := "told", desc := "(II)I" } : Jvm.MethodName)) ∈ lw_all := lw_g (lw_at lw_m4 182 rfl) rfl
theorem q956 : (Jvm.Cond.selects "LevelScoresModel" ({ cls := "LevelScoresModel", name := "told", desc := "(II)I" } : Jvm.MethodName) ({ cls := "LevelScoresModel", name := "told", desc := "(II)I" } : Jvm.MethodName)) ∈ lw_all := lw_g (lw_at lw_m4 183 rfl) rfl
theorem q957 : (Jvm.Cond.code ({ cls := "LevelScoresModel", name := "told", desc := "(II)I" } : Jvm.MethodName) prog_9_method_14_code (5 : Nat) (Option.some Jvm.ClassFile.FieldType.int)) ∈ lw_all := lw_g (lw_at lw_m4 184 rfl) rfl
theorem q959 : (Jvm.Cond.instanceMethod ({ cls := "LevelScoresModel", name := "act", desc := "(III)I" } : Jvm.MethodName)) ∈ lw_all := lw_g (lw_at lw_m4 186 rfl) rfl
theorem q960 : (Jvm.Cond.selects "LevelScoresModel" ({ cls := "LevelScoresModel", name := "act", desc := "(III)I" } : Jvm.MethodName) ({ cls := "LevelScoresModel", name := "act", desc := "(III)I" } : Jvm.MethodName)) ∈ lw_all := lw_g (lw_at lw_m4 187 rfl) rfl
theorem q961 : (Jvm.Cond.code ({ cls := "LevelScoresModel", name := "act", desc := "(III)I" } : Jvm.MethodName) prog_9_method_21_code (14 : Nat) (Option.some Jvm.ClassFile.FieldType.int)) ∈ lw_all := lw_g (lw_at lw_m4 188 rfl) rfl
theorem q962 : (Jvm.Cond.constantLong "LevelScoresModel" (95 : Nat) (5 : Int64)) ∈ lw_all := lw_g (lw_at lw_m4 189 rfl) rfl
theorem q963 : (Jvm.Cond.methodLink "LevelScoresModel" (97 : Nat) ({ cls := "LevelScoresModel", name := "refusal", desc := "(II)I" } : Jvm.MethodName)) ∈ lw_all := lw_g (lw_at lw_m4 190 rfl) rfl
theorem q964 : (Jvm.Cond.privateMethod ({ cls := "LevelScoresModel", name := "refusal", desc := "(II)I" } : Jvm.MethodName)) ∈ lw_tbl := lw_at lw_m4 191 rfl
theorem q965 : (Jvm.Cond.instanceMethod ({ cls := "LevelScoresModel", name := "refusal", desc := "(II)I" } : Jvm.MethodName)) ∈ lw_all := lw_g (lw_at lw_m4 192 rfl) rfl
theorem q966 : (Jvm.Cond.code ({ cls := "LevelScoresModel", name := "refusal", desc := "(II)I" } : Jvm.MethodName) prog_9_method_20_code (3 : Nat) (Option.some Jvm.ClassFile.FieldType.int)) ∈ lw_all := lw_g (lw_at lw_m4 193 rfl) rfl
theorem q967 : (Jvm.Cond.methodLink "LevelScoresModel" (91 : Nat) ({ cls := "LevelScoresModel", name := "areLike", desc := "(II)Z" } : Jvm.MethodName)) ∈ lw_all := lw_g (lw_at lw_m4 194 rfl) rfl
theorem q968 : (Jvm.Cond.privateMethod ({ cls := "LevelScoresModel", name := "areLike", desc := "(II)Z" } : Jvm.MethodName)) ∈ lw_tbl := lw_at lw_m4 195 rfl
theorem q969 : (Jvm.Cond.instanceMethod ({ cls := "LevelScoresModel", name := "areLike", desc := "(II)Z" } : Jvm.MethodName)) ∈ lw_all := lw_g (lw_at lw_m4 196 rfl) rfl
theorem q970 : (Jvm.Cond.code ({ cls := "LevelScoresModel", name := "areLike", desc := "(II)Z" } : Jvm.MethodName) prog_9_method_5_code (3 : Nat) (Option.some Jvm.ClassFile.FieldType.boolean)) ∈ lw_all := lw_g (lw_at lw_m4 197 rfl) rfl
theorem q971 : (Jvm.Cond.methodLink "LevelScoresModel" (101 : Nat) ({ cls := "LevelScoresModel", name := "compare", desc := "([JI[JII)I" } : Jvm.MethodName)) ∈ lw_all := lw_g (lw_at lw_m4 198 rfl) rfl
theorem q972 : (Jvm.Cond.privateMethod ({ cls := "LevelScoresModel", name := "compare", desc := "([JI[JII)I" } : Jvm.MethodName)) ∈ lw_tbl := lw_at lw_m4 199 rfl
theorem q973 : (Jvm.Cond.instanceMethod ({ cls := "LevelScoresModel", name := "compare", desc := "([JI[JII)I" } : Jvm.MethodName)) ∈ lw_all := lw_g (lw_at lw_m4 200 rfl) rfl
theorem q974 : (Jvm.Cond.code ({ cls := "LevelScoresModel", name := "compare", desc := "([JI[JII)I" } : Jvm.MethodName) prog_9_method_19_code (7 : Nat) (Option.some Jvm.ClassFile.FieldType.int)) ∈ lw_all := lw_g (lw_at lw_m4 201 rfl) rfl
theorem q975 : (Jvm.Cond.methodLink "LevelScoresModel" (105 : Nat) ({ cls := "LevelScoresModel", name := "zero", desc := "()V" } : Jvm.MethodName)) ∈ lw_all := lw_g (lw_at lw_m4 202 rfl) rfl
theorem q976 : (Jvm.Cond.privateMethod ({ cls := "LevelScoresModel", name := "zero", desc := "()V" } : Jvm.MethodName)) ∈ lw_tbl := lw_at lw_m4 203 rfl
theorem q977 : (Jvm.Cond.instanceMethod ({ cls := "LevelScoresModel", name := "zero", desc := "()V" } : Jvm.MethodName)) ∈ lw_all := lw_g (lw_at lw_m4 204 rfl) rfl
theorem q978 : (Jvm.Cond.code ({ cls := "LevelScoresModel", name := "zero", desc := "()V" } : Jvm.MethodName) prog_9_method_15_code (1 : Nat) (Option.none : Option Jvm.ClassFile.FieldType)) ∈ lw_all := lw_g (lw_at lw_m4 205 rfl) rfl
theorem q979 : (Jvm.Cond.methodLink "LevelScoresModel" (108 : Nat) ({ cls := "LevelScoresModel", name := "add", desc := "(JJ)V" } : Jvm.MethodName)) ∈ lw_all := lw_g (lw_at lw_m4 206 rfl) rfl
theorem q980 : (Jvm.Cond.privateMethod ({ cls := "LevelScoresModel", name := "add", desc := "(JJ)V" } : Jvm.MethodName)) ∈ lw_tbl := lw_at lw_m4 207 rfl
theorem q981 : (Jvm.Cond.instanceMethod ({ cls := "LevelScoresModel", name := "add", desc := "(JJ)V" } : Jvm.MethodName)) ∈ lw_all := lw_g (lw_at lw_m4 208 rfl) rfl
theorem q982 : (Jvm.Cond.code ({ cls := "LevelScoresModel", name := "add", desc := "(JJ)V" } : Jvm.MethodName) prog_9_method_16_code (5 : Nat) (Option.none : Option Jvm.ClassFile.FieldType)) ∈ lw_all := lw_g (lw_at lw_m4 209 rfl) rfl
theorem q983 : (Jvm.Cond.constantLong "LevelScoresModel" (85 : Nat) (4294967295 : Int64)) ∈ lw_all := lw_g (lw_at lw_m4 210 rfl) rfl
theorem q984 : (Jvm.Cond.constantLong "LevelScoresModel" (112 : Nat) (-1 : Int64)) ∈ lw_all := lw_g (lw_at lw_m4 211 rfl) rfl
theorem q985 : (Jvm.Cond.methodLink "LevelScoresModel" (114 : Nat) ({ cls := "LevelScoresModel", name := "fits", desc := "()Z" } : Jvm.MethodName)) ∈ lw_all := lw_g (lw_at lw_m4 212 rfl) rfl
theorem q986 : (Jvm.Cond.privateMethod ({ cls := "LevelScoresModel", name := "fits", desc := "()Z" } : Jvm.MethodName)) ∈ lw_tbl := lw_at lw_m4 213 rfl
theorem q987 : (Jvm.Cond.instanceMethod ({ cls := "LevelScoresModel", name := "fits", desc := "()Z" } : Jvm.MethodName)) ∈ lw_all := lw_g (lw_at lw_m4 214 rfl) rfl
theorem q988 : (Jvm.Cond.code ({ cls := "LevelScoresModel", name := "fits", desc := "()Z" } : Jvm.MethodName) prog_9_method_17_code (1 : Nat) (Option.some Jvm.ClassFile.FieldType.boolean)) ∈ lw_all := lw_g (lw_at lw_m4 215 rfl) rfl
theorem q989 : (Jvm.Cond.constantLong "LevelScoresModel" (87 : Nat) (-2147483648 : Int64)) ∈ lw_all := lw_g (lw_at lw_m4 216 rfl) rfl
theorem q990 : (Jvm.Cond.constantLong "LevelScoresModel" (89 : Nat) (2147483647 : Int64)) ∈ lw_all := lw_g (lw_at lw_m4 217 rfl) rfl
theorem q991 : (Jvm.Cond.methodLink "LevelScoresModel" (118 : Nat) ({ cls := "LevelScoresModel", name := "number", desc := "()J" } : Jvm.MethodName)) ∈ lw_all := lw_g (lw_at lw_m4 218 rfl) rfl
theorem q992 : (Jvm.Cond.privateMethod ({ cls := "LevelScoresModel", name := "number", desc := "()J" } : Jvm.MethodName)) ∈ lw_tbl := lw_at lw_m4 219 rfl
theorem q993 : (Jvm.Cond.instanceMethod ({ cls := "LevelScoresModel", name := "number", desc := "()J" } : Jvm.MethodName)) ∈ lw_all := lw_g (lw_at lw_m4 220 rfl) rfl
theorem q994 : (Jvm.Cond.code ({ cls := "LevelScoresModel", name := "number", desc := "()J" } : Jvm.MethodName) prog_9_method_18_code (1 : Nat) (Option.some Jvm.ClassFile.FieldType.long)) ∈ lw_all := lw_g (lw_at lw_m4 221 rfl) rfl
theorem q996 : (Jvm.Cond.instanceMethod ({ cls := "LevelScoresModel", name := "times", desc := "(III)I" } : Jvm.MethodName)) ∈ lw_all := lw_g (lw_at lw_m4 223 rfl) rfl
theorem q997 : (Jvm.Cond.selects "LevelScoresModel" ({ cls := "LevelScoresModel", name := "times", desc := "(III)I" } : Jvm.MethodName) ({ cls := "LevelScoresModel", name := "times", desc := "(III)I" } : Jvm.MethodName)) ∈ lw_all := lw_g (lw_at lw_m4 224 rfl) rfl
theorem q998 : (Jvm.Cond.code ({ cls := "LevelScoresModel", name := "times", desc := "(III)I" } : Jvm.MethodName) prog_9_method_22_code (19 : Nat) (Option.some Jvm.ClassFile.FieldType.int)) ∈ lw_all := lw_g (lw_at lw_m4 225 rfl) rfl
theorem q1000 : (Jvm.Cond.instanceMethod ({ cls := "LevelScoresModel", name := "order", desc := "(II)I" } : Jvm.MethodName)) ∈ lw_all := lw_g (lw_at lw_m4 227 rfl) rfl
theorem q1001 : (Jvm.Cond.selects "LevelScoresModel" ({ cls := "LevelScoresModel", name := "order", desc := "(II)I" } : Jvm.MethodName) ({ cls := "LevelScoresModel", name := "order", desc := "(II)I" } : Jvm.MethodName)) ∈ lw_all := lw_g (lw_at lw_m4 228 rfl) rfl
theorem q1002 : (Jvm.Cond.code ({ cls := "LevelScoresModel", name := "order", desc := "(II)I" } : Jvm.MethodName) prog_9_method_23_code (4 : Nat) (Option.some Jvm.ClassFile.FieldType.int)) ∈ lw_all := lw_g (lw_at lw_m4 229 rfl) rfl
theorem q1004 : (Jvm.Cond.instanceMethod ({ cls := "LevelScoresModel", name := "put", desc := "(I)I" } : Jvm.MethodName)) ∈ lw_all := lw_g (lw_at lw_m4 231 rfl) rfl
theorem q1005 : (Jvm.Cond.selects "LevelScoresModel" ({ cls := "LevelScoresModel", name := "put", desc := "(I)I" } : Jvm.MethodName) ({ cls := "LevelScoresModel", name := "put", desc := "(I)I" } : Jvm.MethodName)) ∈ lw_all := lw_g (lw_at lw_m4 232 rfl) rfl
theorem q1006 : (Jvm.Cond.code ({ cls := "LevelScoresModel", name := "put", desc := "(I)I" } : Jvm.MethodName) prog_9_method_24_code (2 : Nat) (Option.some Jvm.ClassFile.FieldType.int)) ∈ lw_all := lw_g (lw_at lw_m4 233 rfl) rfl
theorem q1007 : (Jvm.Cond.constantLong "LevelScoresModel" (122 : Nat) (127 : Int64)) ∈ lw_all := lw_g (lw_at lw_m4 234 rfl) rfl
theorem q1009 : (Jvm.Cond.instanceMethod ({ cls := "LevelScoresModel", name := "read", desc := "()I" } : Jvm.MethodName)) ∈ lw_all := lw_g (lw_at lw_m4 236 rfl) rfl
theorem q1010 : (Jvm.Cond.selects "LevelScoresModel" ({ cls := "LevelScoresModel", name := "read", desc := "()I" } : Jvm.MethodName) ({ cls := "LevelScoresModel", name := "read", desc := "()I" } : Jvm.MethodName)) ∈ lw_all := lw_g (lw_at lw_m4 237 rfl) rfl
theorem q1011 : (Jvm.Cond.code ({ cls := "LevelScoresModel", name := "read", desc := "()I" } : Jvm.MethodName) prog_9_method_35_code (3 : Nat) (Option.some Jvm.ClassFile.FieldType.int)) ∈ lw_all := lw_g (lw_at lw_m4 238 rfl) rfl
theorem q1012 : (Jvm.Cond.methodLink "LevelScoresModel" (130 : Nat) ({ cls := "LevelScoresModel", name := "here", desc := "()I" } : Jvm.MethodName)) ∈ lw_all := lw_g (lw_at lw_m4 239 rfl) rfl
theorem q1013 : (Jvm.Cond.privateMethod ({ cls := "LevelScoresModel", name := "here", desc := "()I" } : Jvm.MethodName)) ∈ lw_tbl := lw_at lw_m5 0 rfl
theorem q1014 : (Jvm.Cond.instanceMethod ({ cls := "LevelScoresModel", name := "here", desc := "()I" } : Jvm.MethodName)) ∈ lw_all := lw_g (lw_at lw_m5 1 rfl) rfl
theorem q1015 : (Jvm.Cond.code ({ cls := "LevelScoresModel", name := "here", desc := "()I" } : Jvm.MethodName) prog_9_method_25_code (1 : Nat) (Option.some Jvm.ClassFile.FieldType.int)) ∈ lw_all := lw_g (lw_at lw_m5 2 rfl) rfl
theorem q1016 : (Jvm.Cond.methodLink "LevelScoresModel" (172 : Nat) ({ cls := "LevelScoresModel", name := "bent", desc := "()V" } : Jvm.MethodName)) ∈ lw_all := lw_g (lw_at lw_m5 3 rfl) rfl
theorem q1017 : (Jvm.Cond.privateMethod ({ cls := "LevelScoresModel", name := "bent", desc := "()V" } : Jvm.MethodName)) ∈ lw_tbl := lw_at lw_m5 4 rfl
theorem q1018 : (Jvm.Cond.instanceMethod ({ cls := "LevelScoresModel", name := "bent", desc := "()V" } : Jvm.MethodName)) ∈ lw_all := lw_g (lw_at lw_m5 5 rfl) rfl
theorem q1019 : (Jvm.Cond.code ({ cls := "LevelScoresModel", name := "bent", desc := "()V" } : Jvm.MethodName) prog_9_method_33_code (3 : Nat) (Option.none : Option Jvm.ClassFile.FieldType)) ∈ lw_all := lw_g (lw_at lw_m5 6 rfl) rfl
theorem q1020 : (Jvm.Cond.methodLink "LevelScoresModel" (145 : Nat) ({ cls := "LevelScoresModel", name := "take", desc := "(I)V" } : Jvm.MethodName)) ∈ lw_all := lw_g (lw_at lw_m5 7 rfl) rfl
theorem q1021 : (Jvm.Cond.privateMethod ({ cls := "LevelScoresModel", name := "take", desc := "(I)V" } : Jvm.MethodName)) ∈ lw_tbl := lw_at lw_m5 8 rfl
theorem q1022 : (Jvm.Cond.instanceMethod ({ cls := "LevelScoresModel", name := "take", desc := "(I)V" } : Jvm.MethodName)) ∈ lw_all := lw_g (lw_at lw_m5 9 rfl) rfl
theorem q1023 : (Jvm.Cond.code ({ cls := "LevelScoresModel", name := "take", desc := "(I)V" } : Jvm.MethodName) prog_9_method_27_code (2 : Nat) (Option.none : Option Jvm.ClassFile.FieldType)) ∈ lw_all := lw_g (lw_at lw_m5 10 rfl) rfl
theorem q1024 : (Jvm.Cond.methodLink "LevelScoresModel" (165 : Nat) ({ cls := "LevelScoresModel", name := "row", desc := "(I)I" } : Jvm.MethodName)) ∈ lw_all := lw_g (lw_at lw_m5 11 rfl) rfl
theorem q1025 : (Jvm.Cond.privateMethod ({ cls := "LevelScoresModel", name := "row", desc := "(I)I" } : Jvm.MethodName)) ∈ lw_tbl := lw_at lw_m5 12 rfl
theorem q1026 : (Jvm.Cond.instanceMethod ({ cls := "LevelScoresModel", name := "row", desc := "(I)I" } : Jvm.MethodName)) ∈ lw_all := lw_g (lw_at lw_m5 13 rfl) rfl
theorem q1027 : (Jvm.Cond.code ({ cls := "LevelScoresModel", name := "row", desc := "(I)I" } : Jvm.MethodName) prog_9_method_32_code (3 : Nat) (Option.some Jvm.ClassFile.FieldType.int)) ∈ lw_all := lw_g (lw_at lw_m5 14 rfl) rfl
theorem q1028 : (Jvm.Cond.methodLink "LevelScoresModel" (159 : Nat) ({ cls := "LevelScoresModel", name := "figure", desc := "()V" } : Jvm.MethodName)) ∈ lw_all := lw_g (lw_at lw_m5 15 rfl) rfl
theorem q1029 : (Jvm.Cond.privateMethod ({ cls := "LevelScoresModel", name := "figure", desc := "()V" } : Jvm.MethodName)) ∈ lw_tbl := lw_at lw_m5 16 rfl
theorem q1030 : (Jvm.Cond.instanceMethod ({ cls := "LevelScoresModel", name := "figure", desc := "()V" } : Jvm.MethodName)) ∈ lw_all := lw_g (lw_at lw_m5 17 rfl) rfl
theorem q1031 : (Jvm.Cond.code ({ cls := "LevelScoresModel", name := "figure", desc := "()V" } : Jvm.MethodName) prog_9_method_30_code (7 : Nat) (Option.none : Option Jvm.ClassFile.FieldType)) ∈ lw_all := lw_g (lw_at lw_m5 18 rfl) rfl
theorem q1032 : (Jvm.Cond.methodLink "LevelScoresModel" (149 : Nat) ({ cls := "LevelScoresModel", name := "isFigure", desc := "()Z" } : Jvm.MethodName)) ∈ lw_all := lw_g (lw_at lw_m5 19 rfl) rfl
theorem q1033 : (Jvm.Cond.privateMethod ({ cls := "LevelScoresModel", name := "isFigure", desc := "()Z" } : Jvm.MethodName)) ∈ lw_tbl := lw_at lw_m5 20 rfl
theorem q1034 : (Jvm.Cond.instanceMethod ({ cls := "LevelScoresModel", name := "isFigure", desc := "()Z" } : Jvm.MethodName)) ∈ lw_all := lw_g (lw_at lw_m5 21 rfl) rfl
theorem q1035 : (Jvm.Cond.code ({ cls := "LevelScoresModel", name := "isFigure", desc := "()Z" } : Jvm.MethodName) prog_9_method_26_code (1 : Nat) (Option.some Jvm.ClassFile.FieldType.boolean)) ∈ lw_all := lw_g (lw_at lw_m5 22 rfl) rfl
theorem q1036 : (Jvm.Cond.constantLong "LevelScoresModel" (133 : Nat) (48 : Int64)) ∈ lw_all := lw_g (lw_at lw_m5 23 rfl) rfl
theorem q1037 : (Jvm.Cond.constantLong "LevelScoresModel" (135 : Nat) (57 : Int64)) ∈ lw_all := lw_g (lw_at lw_m5 24 rfl) rfl
theorem q1038 : (Jvm.Cond.constantLong "LevelScoresModel" (152 : Nat) (-922337203685477580 : Int64)) ∈ lw_all := lw_g (lw_at lw_m5 25 rfl) rfl
theorem q1039 : (Jvm.Cond.constantLong "LevelScoresModel" (154 : Nat) (10 : Int64)) ∈ lw_all := lw_g (lw_at lw_m5 26 rfl) rfl
theorem q1040 : (Jvm.Cond.methodLink "LevelScoresModel" (162 : Nat) ({ cls := "LevelScoresModel", name := "level", desc := "(I)V" } : Jvm.MethodName)) ∈ lw_all := lw_g (lw_at lw_m5 27 rfl) rfl
theorem q1041 : (Jvm.Cond.privateMethod ({ cls := "LevelScoresModel", name := "level", desc := "(I)V" } : Jvm.MethodName)) ∈ lw_tbl := lw_at lw_m5 28 rfl
theorem q1042 : (Jvm.Cond.instanceMethod ({ cls := "LevelScoresModel", name := "level", desc := "(I)V" } : Jvm.MethodName)) ∈ lw_all := lw_g (lw_at lw_m5 29 rfl) rfl
theorem q1043 : (Jvm.Cond.code ({ cls := "LevelScoresModel", name := "level", desc := "(I)V" } : Jvm.MethodName) prog_9_method_31_code (2 : Nat) (Option.none : Option Jvm.ClassFile.FieldType)) ∈ lw_all := lw_g (lw_at lw_m5 30 rfl) rfl
theorem q1044 : (Jvm.Cond.methodLink "LevelScoresModel" (169 : Nat) ({ cls := "LevelScoresModel", name := "word", desc := "(I)V" } : Jvm.MethodName)) ∈ lw_all := lw_g (lw_at lw_m5 31 rfl) rfl
theorem q1045 : (Jvm.Cond.privateMethod ({ cls := "LevelScoresModel", name := "word", desc := "(I)V" } : Jvm.MethodName)) ∈ lw_tbl := lw_at lw_m5 32 rfl
theorem q1046 : (Jvm.Cond.instanceMethod ({ cls := "LevelScoresModel", name := "word", desc := "(I)V" } : Jvm.MethodName)) ∈ lw_all := lw_g (lw_at lw_m5 33 rfl) rfl
theorem q1047 : (Jvm.Cond.code ({ cls := "LevelScoresModel", name := "word", desc := "(I)V" } : Jvm.MethodName) prog_9_method_28_code (6 : Nat) (Option.none : Option Jvm.ClassFile.FieldType)) ∈ lw_all := lw_g (lw_at lw_m5 34 rfl) rfl
theorem q1048 : (Jvm.Cond.methodLink "LevelScoresModel" (141 : Nat) ({ cls := "LevelScoresModel", name := "letter", desc := "(II)J" } : Jvm.MethodName)) ∈ lw_all := lw_g (lw_at lw_m5 35 rfl) rfl
theorem q1049 : (Jvm.Cond.static ({ cls := "LevelScoresModel", name := "letter", desc := "(II)J" } : Jvm.MethodName)) ∈ lw_all := lw_g (lw_at lw_m5 36 rfl) rfl
theorem q1050 : (Jvm.Cond.code ({ cls := "LevelScoresModel", name := "letter", desc := "(II)J" } : Jvm.MethodName) prog_9_method_29_code (2 : Nat) (Option.some Jvm.ClassFile.FieldType.long)) ∈ lw_all := lw_g (lw_at lw_m5 37 rfl) rfl
theorem q1051 : (Jvm.Cond.methodLink "LevelScoresModel" (175 : Nat) ({ cls := "LevelScoresModel", name := "plain", desc := "()V" } : Jvm.MethodName)) ∈ lw_all := lw_g (lw_at lw_m5 38 rfl) rfl
theorem q1052 : (Jvm.Cond.privateMethod ({ cls := "LevelScoresModel", name := "plain", desc := "()V" } : Jvm.MethodName)) ∈ lw_tbl := lw_at lw_m5 39 rfl
theorem q1053 : (Jvm.Cond.instanceMethod ({ cls := "LevelScoresModel", name := "plain", desc := "()V" } : Jvm.MethodName)) ∈ lw_all := lw_g (lw_at lw_m5 40 rfl) rfl
theorem q1054 : (Jvm.Cond.code ({ cls := "LevelScoresModel", name := "plain", desc := "()V" } : Jvm.MethodName) prog_9_method_34_code (2 : Nat) (Option.none : Option Jvm.ClassFile.FieldType)) ∈ lw_all := lw_g (lw_at lw_m5 41 rfl) rfl
theorem q1056 : (Jvm.Cond.instanceMethod ({ cls := "LevelScoresModel", name := "print", desc := "(I)I" } : Jvm.MethodName)) ∈ lw_all := lw_g (lw_at lw_m5 43 rfl) rfl
theorem q1057 : (Jvm.Cond.selects "LevelScoresModel" ({ cls := "LevelScoresModel", name := "print", desc := "(I)I" } : Jvm.MethodName) ({ cls := "LevelScoresModel", name := "print", desc := "(I)I" } : Jvm.MethodName)) ∈ lw_all := lw_g (lw_at lw_m5 44 rfl) rfl
theorem q1058 : (Jvm.Cond.code ({ cls := "LevelScoresModel", name := "print", desc := "(I)I" } : Jvm.MethodName) prog_9_method_40_code (2 : Nat) (Option.some Jvm.ClassFile.FieldType.int)) ∈ lw_all := lw_g (lw_at lw_m5 45 rfl) rfl
theorem q1059 : (Jvm.Cond.methodLink "LevelScoresModel" (192 : Nat) ({ cls := "LevelScoresModel", name := "writeRow", desc := "(III)V" } : Jvm.MethodName)) ∈ lw_all := lw_g (lw_at lw_m5 46 rfl) rfl
theorem q1060 : (Jvm.Cond.privateMethod ({ cls := "LevelScoresModel", name := "writeRow", desc := "(III)V" } : Jvm.MethodName)) ∈ lw_tbl := lw_at lw_m5 47 rfl
theorem q1061 : (Jvm.Cond.instanceMethod ({ cls := "LevelScoresModel", name := "writeRow", desc := "(III)V" } : Jvm.MethodName)) ∈ lw_all := lw_g (lw_at lw_m5 48 rfl) rfl
theorem q1062 : (Jvm.Cond.code ({ cls := "LevelScoresModel", name := "writeRow", desc := "(III)V" } : Jvm.MethodName) prog_9_method_39_code (5 : Nat) (Option.none : Option Jvm.ClassFile.FieldType)) ∈ lw_all := lw_g (lw_at lw_m5 49 rfl) rfl
theorem q1063 : (Jvm.Cond.methodLink "LevelScoresModel" (181 : Nat) ({ cls := "LevelScoresModel", name := "write", desc := "(I)V" } : Jvm.MethodName)) ∈ lw_all := lw_g (lw_at lw_m5 50 rfl) rfl
theorem q1064 : (Jvm.Cond.privateMethod ({ cls := "LevelScoresModel", name := "write", desc := "(I)V" } : Jvm.MethodName)) ∈ lw_tbl := lw_at lw_m5 51 rfl
theorem q1065 : (Jvm.Cond.instanceMethod ({ cls := "LevelScoresModel", name := "write", desc := "(I)V" } : Jvm.MethodName)) ∈ lw_all := lw_g (lw_at lw_m5 52 rfl) rfl
theorem q1066 : (Jvm.Cond.code ({ cls := "LevelScoresModel", name := "write", desc := "(I)V" } : Jvm.MethodName) prog_9_method_36_code (2 : Nat) (Option.none : Option Jvm.ClassFile.FieldType)) ∈ lw_all := lw_g (lw_at lw_m5 53 rfl) rfl
theorem q1067 : (Jvm.Cond.methodLink "LevelScoresModel" (188 : Nat) ({ cls := "LevelScoresModel", name := "writeNumber", desc := "(J)V" } : Jvm.MethodName)) ∈ lw_all := lw_g (lw_at lw_m5 54 rfl) rfl
theorem q1068 : (Jvm.Cond.privateMethod ({ cls := "LevelScoresModel", name := "writeNumber", desc := "(J)V" } : Jvm.MethodName)) ∈ lw_tbl := lw_at lw_m5 55 rfl
theorem q1069 : (Jvm.Cond.instanceMethod ({ cls := "LevelScoresModel", name := "writeNumber", desc := "(J)V" } : Jvm.MethodName)) ∈ lw_all := lw_g (lw_at lw_m5 56 rfl) rfl
theorem q1070 : (Jvm.Cond.code ({ cls := "LevelScoresModel", name := "writeNumber", desc := "(J)V" } : Jvm.MethodName) prog_9_method_37_code (9 : Nat) (Option.none : Option Jvm.ClassFile.FieldType)) ∈ lw_all := lw_g (lw_at lw_m5 57 rfl) rfl
theorem q1071 : (Jvm.Cond.constantLong "LevelScoresModel" (184 : Nat) (9 : Int64)) ∈ lw_all := lw_g (lw_at lw_m5 58 rfl) rfl
theorem q1072 : (Jvm.Cond.constantLong "LevelScoresModel" (186 : Nat) (-9 : Int64)) ∈ lw_all := lw_g (lw_at lw_m5 59 rfl) rfl
theorem q1073 : (Jvm.Cond.methodLink "LevelScoresModel" (195 : Nat) ({ cls := "LevelScoresModel", name := "writeWord", desc := "(I)V" } : Jvm.MethodName)) ∈ lw_all := lw_g (lw_at lw_m5 60 rfl) rfl
theorem q1074 : (Jvm.Cond.privateMethod ({ cls := "LevelScoresModel", name := "writeWord", desc := "(I)V" } : Jvm.MethodName)) ∈ lw_tbl := lw_at lw_m5 61 rfl
theorem q1075 : (Jvm.Cond.instanceMethod ({ cls := "LevelScoresModel", name := "writeWord", desc := "(I)V" } : Jvm.MethodName)) ∈ lw_all := lw_g (lw_at lw_m5 62 rfl) rfl
theorem q1076 : (Jvm.Cond.code ({ cls := "LevelScoresModel", name := "writeWord", desc := "(I)V" } : Jvm.MethodName) prog_9_method_38_code (6 : Nat) (Option.none : Option Jvm.ClassFile.FieldType)) ∈ lw_all := lw_g (lw_at lw_m5 63 rfl) rfl
theorem q1078 : (Jvm.Cond.instanceMethod ({ cls := "LevelScoresModel", name := "out", desc := "(I)I" } : Jvm.MethodName)) ∈ lw_all := lw_g (lw_at lw_m5 65 rfl) rfl
theorem q1079 : (Jvm.Cond.selects "LevelScoresModel" ({ cls := "LevelScoresModel", name := "out", desc := "(I)I" } : Jvm.MethodName) ({ cls := "LevelScoresModel", name := "out", desc := "(I)I" } : Jvm.MethodName)) ∈ lw_all := lw_g (lw_at lw_m5 66 rfl) rfl
theorem q1080 : (Jvm.Cond.code ({ cls := "LevelScoresModel", name := "out", desc := "(I)I" } : Jvm.MethodName) prog_9_method_41_code (2 : Nat) (Option.some Jvm.ClassFile.FieldType.int)) ∈ lw_all := lw_g (lw_at lw_m5 67 rfl) rfl
theorem q1082 : (Jvm.Cond.instanceMethod ({ cls := "LevelScoresModel", name := "plan", desc := "(I)I" } : Jvm.MethodName)) ∈ lw_all := lw_g (lw_at lw_m5 69 rfl) rfl
theorem q1083 : (Jvm.Cond.selects "LevelScoresModel" ({ cls := "LevelScoresModel", name := "plan", desc := "(I)I" } : Jvm.MethodName) ({ cls := "LevelScoresModel", name := "plan", desc := "(I)I" } : Jvm.MethodName)) ∈ lw_all := lw_g (lw_at lw_m5 70 rfl) rfl
theorem q1084 : (Jvm.Cond.code ({ cls := "LevelScoresModel", name := "plan", desc := "(I)I" } : Jvm.MethodName) prog_9_method_42_code (3 : Nat) (Option.some Jvm.ClassFile.FieldType.int)) ∈ lw_all := lw_g (lw_at lw_m5 71 rfl) rfl
theorem q1086 : (Jvm.Cond.instanceMethod ({ cls := "LevelScoresModel", name := "rule", desc := "(I)I" } : Jvm.MethodName)) ∈ lw_all := lw_g (lw_at lw_m5 73 rfl) rfl
theorem q1087 : (Jvm.Cond.selects "LevelScoresModel" ({ cls := "LevelScoresModel", name := "rule", desc := "(I)I" } : Jvm.MethodName) ({ cls := "LevelScoresModel", name := "rule", desc := "(I)I" } : Jvm.MethodName)) ∈ lw_all := lw_g (lw_at lw_m5 74 rfl) rfl
theorem q1088 : (Jvm.Cond.code ({ cls := "LevelScoresModel", name := "rule", desc := "(I)I" } : Jvm.MethodName) prog_9_method_43_code (3 : Nat) (Option.some Jvm.ClassFile.FieldType.int)) ∈ lw_all := lw_g (lw_at lw_m5 75 rfl) rfl
theorem q1089 : (Jvm.Cond.methodLink "LevelScoresModel" (204 : Nat) ({ cls := "LevelScoresModel", name := "isLikePlan", desc := "(I)Z" } : Jvm.MethodName)) ∈ lw_all := lw_g (lw_at lw_m5 76 rfl) rfl
theorem q1090 : (Jvm.Cond.privateMethod ({ cls := "LevelScoresModel", name := "isLikePlan", desc := "(I)Z" } : Jvm.MethodName)) ∈ lw_tbl := lw_at lw_m5 77 rfl
theorem q1091 : (Jvm.Cond.instanceMethod ({ cls := "LevelScoresModel", name := "isLikePlan", desc := "(I)Z" } : Jvm.MethodName)) ∈ lw_all := lw_g (lw_at lw_m5 78 rfl) rfl
theorem q1092 : (Jvm.Cond.code ({ cls := "LevelScoresModel", name := "isLikePlan", desc := "(I)Z" } : Jvm.MethodName) prog_9_method_6_code (2 : Nat) (Option.some Jvm.ClassFile.FieldType.boolean)) ∈ lw_all := lw_g (lw_at lw_m5 79 rfl) rfl
theorem q1094 : (Jvm.Cond.instanceMethod ({ cls := "LevelScoresModel", name := "count", desc := "(II)I" } : Jvm.MethodName)) ∈ lw_all := lw_g (lw_at lw_m5 81 rfl) rfl
theorem q1095 : (Jvm.Cond.selects "LevelScoresModel" ({ cls := "LevelScoresModel", name := "count", desc := "(II)I" } : Jvm.MethodName) ({ cls := "LevelScoresModel", name := "count", desc := "(II)I" } : Jvm.MethodName)) ∈ lw_all := lw_g (lw_at lw_m5 82 rfl) rfl
theorem q1096 : (Jvm.Cond.code ({ cls := "LevelScoresModel", name := "count", desc := "(II)I" } : Jvm.MethodName) prog_9_method_46_code (4 : Nat) (Option.some Jvm.ClassFile.FieldType.int)) ∈ lw_all := lw_g (lw_at lw_m5 83 rfl) rfl
theorem q1097 : (Jvm.Cond.constantLong "LevelScoresModel" (211 : Nat) (1000000 : Int64)) ∈ lw_all := lw_g (lw_at lw_m5 84 rfl) rfl
theorem q1098 : (Jvm.Cond.methodLink "LevelScoresModel" (213 : Nat) ({ cls := "LevelScoresModel", name := "hasRoom", desc := "()Z" } : Jvm.MethodName)) ∈ lw_all := lw_g (lw_at lw_m5 85 rfl) rfl
theorem q1099 : (Jvm.Cond.privateMethod ({ cls := "LevelScoresModel", name := "hasRoom", desc := "()Z" } : Jvm.MethodName)) ∈ lw_tbl := lw_at lw_m5 86 rfl
theorem q1100 : (Jvm.Cond.instanceMethod ({ cls := "LevelScoresModel", name := "hasRoom", desc := "()Z" } : Jvm.MethodName)) ∈ lw_all := lw_g (lw_at lw_m5 87 rfl) rfl
theorem q1101 : (Jvm.Cond.code ({ cls := "LevelScoresModel", name := "hasRoom", desc := "()Z" } : Jvm.MethodName) prog_9_method_45_code (4 : Nat) (Option.some Jvm.ClassFile.FieldType.boolean)) ∈ lw_all := lw_g (lw_at lw_m5 88 rfl) rfl
theorem q1102 : (Jvm.Cond.methodLink "LevelScoresModel" (207 : Nat) ({ cls := "LevelScoresModel", name := "layPart", desc := "(II)V" } : Jvm.MethodName)) ∈ lw_all := lw_g (lw_at lw_m5 89 rfl) rfl
theorem q1103 : (Jvm.Cond.privateMethod ({ cls := "LevelScoresModel", name := "layPart", desc := "(II)V" } : Jvm.MethodName)) ∈ lw_tbl := lw_at lw_m5 90 rfl
theorem q1104 : (Jvm.Cond.instanceMethod ({ cls := "LevelScoresModel", name := "layPart", desc := "(II)V" } : Jvm.MethodName)) ∈ lw_all := lw_g (lw_at lw_m5 91 rfl) rfl
theorem q1105 : (Jvm.Cond.code ({ cls := "LevelScoresModel", name := "layPart", desc := "(II)V" } : Jvm.MethodName) prog_9_method_44_code (3 : Nat) (Option.none : Option Jvm.ClassFile.FieldType)) ∈ lw_all := lw_g (lw_at lw_m5 92 rfl) rfl
theorem q1107 : (Jvm.Cond.instanceMethod ({ cls := "LevelScoresModel", name := "weight", desc := "(II)I" } : Jvm.MethodName)) ∈ lw_all := lw_g (lw_at lw_m5 94 rfl) rfl
theorem q1108 : (Jvm.Cond.selects "LevelScoresModel" ({ cls := "LevelScoresModel", name := "weight", desc := "(II)I" } : Jvm.MethodName) ({ cls := "LevelScoresModel", name := "weight", desc := "(II)I" } : Jvm.MethodName)) ∈ lw_all := lw_g (lw_at lw_m5 95 rfl) rfl
theorem q1109 : (Jvm.Cond.code ({ cls := "LevelScoresModel", name := "weight", desc := "(II)I" } : Jvm.MethodName) prog_9_method_47_code (4 : Nat) (Option.some Jvm.ClassFile.FieldType.int)) ∈ lw_all := lw_g (lw_at lw_m5 96 rfl) rfl
theorem q1111 : (Jvm.Cond.instanceMethod ({ cls := "LevelScoresModel", name := "total", desc := "(I)I" } : Jvm.MethodName)) ∈ lw_all := lw_g (lw_at lw_m5 98 rfl) rfl
theorem q1112 : (Jvm.Cond.selects "LevelScoresModel" ({ cls := "LevelScoresModel", name := "total", desc := "(I)I" } : Jvm.MethodName) ({ cls := "LevelScoresModel", name := "total", desc := "(I)I" } : Jvm.MethodName)) ∈ lw_all := lw_g (lw_at lw_m5 99 rfl) rfl
theorem q1113 : (Jvm.Cond.code ({ cls := "LevelScoresModel", name := "total", desc := "(I)I" } : Jvm.MethodName) prog_9_method_48_code (4 : Nat) (Option.some Jvm.ClassFile.FieldType.int)) ∈ lw_all := lw_g (lw_at lw_m5 100 rfl) rfl
theorem q1115 : (Jvm.Cond.instanceMethod ({ cls := "LevelScoresModel", name := "safe", desc := "(I)I" } : Jvm.MethodName)) ∈ lw_all := lw_g (lw_at lw_m5 102 rfl) rfl
theorem q1116 : (Jvm.Cond.selects "LevelScoresModel" ({ cls := "LevelScoresModel", name := "safe", desc := "(I)I" } : Jvm.MethodName) ({ cls := "LevelScoresModel", name := "safe", desc := "(I)I" } : Jvm.MethodName)) ∈ lw_all := lw_g (lw_at lw_m5 103 rfl) rfl
theorem q1117 : (Jvm.Cond.code ({ cls := "LevelScoresModel", name := "safe", desc := "(I)I" } : Jvm.MethodName) prog_9_method_49_code (8 : Nat) (Option.some Jvm.ClassFile.FieldType.int)) ∈ lw_all := lw_g (lw_at lw_m5 104 rfl) rfl
theorem q1119 : (Jvm.Cond.instanceMethod ({ cls := "LevelScoresModel", name := "keep", desc := "(I)I" } : Jvm.MethodName)) ∈ lw_all := lw_g (lw_at lw_m5 106 rfl) rfl
theorem q1120 : (Jvm.Cond.selects "LevelScoresModel" ({ cls := "LevelScoresModel", name := "keep", desc := "(I)I" } : Jvm.MethodName) ({ cls := "LevelScoresModel", name := "keep", desc := "(I)I" } : Jvm.MethodName)) ∈ lw_all := lw_g (lw_at lw_m5 107 rfl) rfl
theorem q1121 : (Jvm.Cond.code ({ cls := "LevelScoresModel", name := "keep", desc := "(I)I" } : Jvm.MethodName) prog_9_method_50_code (4 : Nat) (Option.some Jvm.ClassFile.FieldType.int)) ∈ lw_all := lw_g (lw_at lw_m5 108 rfl) rfl
theorem q1123 : (Jvm.Cond.instanceMethod ({ cls := "LevelScoresModel", name := "kept", desc := "(I)I" } : Jvm.MethodName)) ∈ lw_all := lw_g (lw_at lw_m5 110 rfl) rfl
theorem q1124 : (Jvm.Cond.selects "LevelScoresModel" ({ cls := "LevelScoresModel", name := "kept", desc := "(I)I" } : Jvm.MethodName) ({ cls := "LevelScoresModel", name := "kept", desc := "(I)I" } : Jvm.MethodName)) ∈ lw_all := lw_g (lw_at lw_m5 111 rfl) rfl
theorem q1125 : (Jvm.Cond.code ({ cls := "LevelScoresModel", name := "kept", desc := "(I)I" } : Jvm.MethodName) prog_9_method_51_code (3 : Nat) (Option.some Jvm.ClassFile.FieldType.int)) ∈ lw_all := lw_g (lw_at lw_m5 112 rfl) rfl
theorem q1127 : (Jvm.Cond.instanceMethod ({ cls := "LevelScoresModel", name := "many", desc := "(I)I" } : Jvm.MethodName)) ∈ lw_all := lw_g (lw_at lw_m5 114 rfl) rfl
theorem q1128 : (Jvm.Cond.selects "LevelScoresModel" ({ cls := "LevelScoresModel", name := "many", desc := "(I)I" } : Jvm.MethodName) ({ cls := "LevelScoresModel", name := "many", desc := "(I)I" } : Jvm.MethodName)) ∈ lw_all := lw_g (lw_at lw_m5 115 rfl) rfl
theorem q1129 : (Jvm.Cond.code ({ cls := "LevelScoresModel", name := "many", desc := "(I)I" } : Jvm.MethodName) prog_9_method_52_code (2 : Nat) (Option.some Jvm.ClassFile.FieldType.int)) ∈ lw_all := lw_g (lw_at lw_m5 116 rfl) rfl
theorem q1131 : (Jvm.Cond.instanceMethod ({ cls := "LevelScoresModel", name := "drop", desc := "()I" } : Jvm.MethodName)) ∈ lw_all := lw_g (lw_at lw_m5 118 rfl) rfl
theorem q1132 : (Jvm.Cond.selects "LevelScoresModel" ({ cls := "LevelScoresModel", name := "drop", desc := "()I" } : Jvm.MethodName) ({ cls := "LevelScoresModel", name := "drop", desc := "()I" } : Jvm.MethodName)) ∈ lw_all := lw_g (lw_at lw_m5 119 rfl) rfl
theorem q1133 : (Jvm.Cond.code ({ cls := "LevelScoresModel", name := "drop", desc := "()I" } : Jvm.MethodName) prog_9_method_53_code (1 : Nat) (Option.some Jvm.ClassFile.FieldType.int)) ∈ lw_all := lw_g (lw_at lw_m5 120 rfl) rfl
theorem q1146 : (Jvm.Cond.castable "LevelScoresModel" "java/lang/Object") ∈ lw_tbl := lw_at lw_m5 133 rfl
theorem in_X4 : ∀ w ∈ wsX40, w ∈ lw_all := lw_in wsX40 [865, 867, 869, 871, 873, 875, 877, 879, 881, 883, 885, 887, 889, 891, 893, 895, 897, 899, 901, 903, 905, 907, 909, 911] (by decide +kernel) (by decide +kernel)
