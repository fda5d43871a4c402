/-! java/lang/Throwable -/
set_option maxRecDepth 100000
def RJ0 : String := "java/lang/Throwable"
def TJ0 : u_T := fun k => match k with
  | 0 => ("java/lang/Throwable", "cause", "Ljava/lang/Throwable;", false)
  | 1 => ("java/lang/Throwable", "stackTrace", "[Ljava/lang/StackTraceElement;", false)
  | 2 => ("java/lang/Throwable", "suppressedExceptions", "Ljava/util/List;", false)
  | 3 => ("java/lang/Throwable", "detailMessage", "Ljava/lang/String;", false)
  | _ => ("java/lang/Throwable", "backtrace", "Ljava/lang/Object;", false)
def tyJ0 : Nat → FieldType := fun k => match k with
  | 0 => .object "java/lang/Throwable"
  | 1 => .array (.object "java/lang/StackTraceElement")
  | 2 => .object "java/util/List"
  | 3 => .object "java/lang/String"
  | _ => .object "java/lang/Object"
abbrev wsJ00 : List Cond := u_ws RJ0 TJ0 5
theorem nmJ0 : ∀ a, a < 5 → ∀ b, b < 5 → a ≠ b → (TJ0 a).2.1 ≠ (TJ0 b).2.1 := by decide +kernel
theorem tyJ0_ok : ∀ k, k < 5 → parseFieldDescriptor (TJ0 k).2.2.1 = some (tyJ0 k) := by decide +kernel
abbrev cJ0_init : ByteArray := prog_24_method_2_code
def yJ0_init : MethodName := ⟨RJ0, "<init>", "(Ljava/lang/String;)V"⟩
def dkwJ0_init_1 : List UInt8 := [182, 0, 27, 87, 42, 43, 181, 0, 31, 177]
abbrev dktJ0_init_1 : List UInt8 := dkwJ0_init_1 ++ []
def dkwJ0_init_0 : List UInt8 := [42, 183, 0, 1, 42, 42, 181, 0, 7, 42, 178, 0, 13, 181, 0, 17, 42, 178, 0, 20, 181, 0, 24, 42]
abbrev dktJ0_init_0 : List UInt8 := dkwJ0_init_0 ++ dktJ0_init_1
theorem dksJ0_init_0 : cJ0_init.data.toList.drop 0 = dktJ0_init_0 := by decide +kernel
theorem dksJ0_init_1 : cJ0_init.data.toList.drop 24 = dktJ0_init_1 := dk_seg dksJ0_init_0 24 rfl rfl
theorem dJ0_init_0 : decode cJ0_init 0 = .ok (.aload_n 0, 1) := dk_42 (dk_at dksJ0_init_0 0 rfl rfl)
theorem dJ0_init_1 : decode cJ0_init 1 = .ok (.invokespecial 1, 3) := dk_183 0 1 (dk_at dksJ0_init_0 1 rfl rfl)
theorem dJ0_init_4 : decode cJ0_init 4 = .ok (.aload_n 0, 1) := dk_42 (dk_at dksJ0_init_0 4 rfl rfl)
theorem dJ0_init_5 : decode cJ0_init 5 = .ok (.aload_n 0, 1) := dk_42 (dk_at dksJ0_init_0 5 rfl rfl)
theorem dJ0_init_6 : decode cJ0_init 6 = .ok (.putfield 7, 3) := dk_181 0 7 (dk_at dksJ0_init_0 6 rfl rfl)
theorem dJ0_init_9 : decode cJ0_init 9 = .ok (.aload_n 0, 1) := dk_42 (dk_at dksJ0_init_0 9 rfl rfl)
theorem dJ0_init_10 : decode cJ0_init 10 = .ok (.getstatic 13, 3) := dk_178 0 13 (dk_at dksJ0_init_0 10 rfl rfl)
theorem dJ0_init_13 : decode cJ0_init 13 = .ok (.putfield 17, 3) := dk_181 0 17 (dk_at dksJ0_init_0 13 rfl rfl)
theorem dJ0_init_16 : decode cJ0_init 16 = .ok (.aload_n 0, 1) := dk_42 (dk_at dksJ0_init_0 16 rfl rfl)
theorem dJ0_init_17 : decode cJ0_init 17 = .ok (.getstatic 20, 3) := dk_178 0 20 (dk_at dksJ0_init_0 17 rfl rfl)
theorem dJ0_init_20 : decode cJ0_init 20 = .ok (.putfield 24, 3) := dk_181 0 24 (dk_at dksJ0_init_0 20 rfl rfl)
theorem dJ0_init_23 : decode cJ0_init 23 = .ok (.aload_n 0, 1) := dk_42 (dk_at dksJ0_init_0 23 rfl rfl)
theorem dJ0_init_24 : decode cJ0_init 24 = .ok (.invokevirtual 27, 3) := dk_182 0 27 (dk_at dksJ0_init_1 0 rfl rfl)
theorem dJ0_init_27 : decode cJ0_init 27 = .ok (.pop, 1) := dk_87 (dk_at dksJ0_init_1 3 rfl rfl)
theorem dJ0_init_28 : decode cJ0_init 28 = .ok (.aload_n 0, 1) := dk_42 (dk_at dksJ0_init_1 4 rfl rfl)
theorem dJ0_init_29 : decode cJ0_init 29 = .ok (.aload_n 1, 1) := dk_43 (dk_at dksJ0_init_1 5 rfl rfl)
theorem dJ0_init_30 : decode cJ0_init 30 = .ok (.putfield 31, 3) := dk_181 0 31 (dk_at dksJ0_init_1 6 rfl rfl)
theorem dJ0_init_33 : decode cJ0_init 33 = .ok (.return_, 1) := dk_177 (dk_at dksJ0_init_1 9 rfl rfl)
abbrev cJ0_init_2 : ByteArray := prog_24_method_1_code
def yJ0_init_2 : MethodName := ⟨RJ0, "<init>", "()V"⟩
def dkwJ0_init_2_1 : List UInt8 := [182, 0, 27, 87, 177]
abbrev dktJ0_init_2_1 : List UInt8 := dkwJ0_init_2_1 ++ []
def dkwJ0_init_2_0 : List UInt8 := [42, 183, 0, 1, 42, 42, 181, 0, 7, 42, 178, 0, 13, 181, 0, 17, 42, 178, 0, 20, 181, 0, 24, 42]
abbrev dktJ0_init_2_0 : List UInt8 := dkwJ0_init_2_0 ++ dktJ0_init_2_1
theorem dksJ0_init_2_0 : cJ0_init_2.data.toList.drop 0 = dktJ0_init_2_0 := by decide +kernel
theorem dksJ0_init_2_1 : cJ0_init_2.data.toList.drop 24 = dktJ0_init_2_1 := dk_seg dksJ0_init_2_0 24 rfl rfl
theorem dJ0_init_2_0 : decode cJ0_init_2 0 = .ok (.aload_n 0, 1) := dk_42 (dk_at dksJ0_init_2_0 0 rfl rfl)
theorem dJ0_init_2_1 : decode cJ0_init_2 1 = .ok (.invokespecial 1, 3) := dk_183 0 1 (dk_at dksJ0_init_2_0 1 rfl rfl)
theorem dJ0_init_2_4 : decode cJ0_init_2 4 = .ok (.aload_n 0, 1) := dk_42 (dk_at dksJ0_init_2_0 4 rfl rfl)
theorem dJ0_init_2_5 : decode cJ0_init_2 5 = .ok (.aload_n 0, 1) := dk_42 (dk_at dksJ0_init_2_0 5 rfl rfl)
theorem dJ0_init_2_6 : decode cJ0_init_2 6 = .ok (.putfield 7, 3) := dk_181 0 7 (dk_at dksJ0_init_2_0 6 rfl rfl)
theorem dJ0_init_2_9 : decode cJ0_init_2 9 = .ok (.aload_n 0, 1) := dk_42 (dk_at dksJ0_init_2_0 9 rfl rfl)
theorem dJ0_init_2_10 : decode cJ0_init_2 10 = .ok (.getstatic 13, 3) := dk_178 0 13 (dk_at dksJ0_init_2_0 10 rfl rfl)
theorem dJ0_init_2_13 : decode cJ0_init_2 13 = .ok (.putfield 17, 3) := dk_181 0 17 (dk_at dksJ0_init_2_0 13 rfl rfl)
theorem dJ0_init_2_16 : decode cJ0_init_2 16 = .ok (.aload_n 0, 1) := dk_42 (dk_at dksJ0_init_2_0 16 rfl rfl)
theorem dJ0_init_2_17 : decode cJ0_init_2 17 = .ok (.getstatic 20, 3) := dk_178 0 20 (dk_at dksJ0_init_2_0 17 rfl rfl)
theorem dJ0_init_2_20 : decode cJ0_init_2 20 = .ok (.putfield 24, 3) := dk_181 0 24 (dk_at dksJ0_init_2_0 20 rfl rfl)
theorem dJ0_init_2_23 : decode cJ0_init_2 23 = .ok (.aload_n 0, 1) := dk_42 (dk_at dksJ0_init_2_0 23 rfl rfl)
theorem dJ0_init_2_24 : decode cJ0_init_2 24 = .ok (.invokevirtual 27, 3) := dk_182 0 27 (dk_at dksJ0_init_2_1 0 rfl rfl)
theorem dJ0_init_2_27 : decode cJ0_init_2 27 = .ok (.pop, 1) := dk_87 (dk_at dksJ0_init_2_1 3 rfl rfl)
theorem dJ0_init_2_28 : decode cJ0_init_2 28 = .ok (.return_, 1) := dk_177 (dk_at dksJ0_init_2_1 4 rfl rfl)
theorem q58 : (Jvm.Cond.initialized "java/lang/Throwable") ∈ lw_all := lw_g (lw_at lw_m1 5 rfl) rfl
theorem q171 : (Jvm.Cond.instanceMethod ({ cls := "java/lang/Throwable", name := "<init>", desc := "(Ljava/lang/String;)V" } : Jvm.MethodName)) ∈ lw_all := lw_g (lw_at lw_m1 118 rfl) rfl
theorem q172 : (Jvm.Cond.code ({ cls := "java/lang/Throwable", name := "<init>", desc := "(Ljava/lang/String;)V" } : Jvm.MethodName) prog_24_method_2_code (2 : Nat) (Option.none : Option Jvm.ClassFile.FieldType)) ∈ lw_all := lw_g (lw_at lw_m1 119 rfl) rfl
theorem q173 : (Jvm.Cond.methodLink "java/lang/Throwable" (1 : Nat) ({ cls := "java/lang/Object", name := "<init>", desc := "()V" } : Jvm.MethodName)) ∈ lw_all := lw_g (lw_at lw_m1 120 rfl) rfl
theorem q174 : (Jvm.Cond.fieldLink "java/lang/Throwable" (13 : Nat) "java/lang/Throwable" "UNASSIGNED_STACK" "[Ljava/lang/StackTraceElement;") ∈ lw_all := lw_g (lw_at lw_m1 121 rfl) rfl
theorem q175 : (Jvm.Cond.laysStatic "java/lang/Throwable" "UNASSIGNED_STACK" "[Ljava/lang/StackTraceElement;") ∈ lw_tbl := lw_at lw_m1 122 rfl
theorem q176 : (Jvm.Cond.fieldLink "java/lang/Throwable" (20 : Nat) "java/lang/Throwable" "SUPPRESSED_SENTINEL" "Ljava/util/List;") ∈ lw_all := lw_g (lw_at lw_m1 123 rfl) rfl
theorem q177 : (Jvm.Cond.laysStatic "java/lang/Throwable" "SUPPRESSED_SENTINEL" "Ljava/util/List;") ∈ lw_tbl := lw_at lw_m1 124 rfl
theorem q178 : (Jvm.Cond.methodLink "java/lang/Throwable" (27 : Nat) ({ cls := "java/lang/Throwable", name := "fillInStackTrace", desc := "()Ljava/lang/Throwable;" } : Jvm.MethodName)) ∈ lw_all := lw_g (lw_at lw_m1 125 rfl) rfl
theorem q179 : (Jvm.Cond.instanceMethod ({ cls := "java/lang/Throwable", name := "fillInStackTrace", desc := "()Ljava/lang/Throwable;" } : Jvm.MethodName)) ∈ lw_all := lw_g (lw_at lw_m1 126 rfl) rfl
theorem q180 : (Jvm.Cond.sameMethod "java/lang/Throwable" "java/lang/Throwable" "fillInStackTrace" "()Ljava/lang/Throwable;") ∈ lw_all := lw_g (lw_at lw_m1 127 rfl) rfl
theorem q197 : (Jvm.Cond.declares ({ cls := "java/lang/Throwable", name := "fillInStackTrace", desc := "()Ljava/lang/Throwable;" } : Jvm.MethodName)) ∈ lw_tbl := lw_at lw_m1 144 rfl
theorem q202 : (Jvm.Cond.codeSync ({ cls := "java/lang/Throwable", name := "fillInStackTrace", desc := "()Ljava/lang/Throwable;" } : Jvm.MethodName) prog_24_method_18_code (1 : Nat) (Option.some (Jvm.ClassFile.FieldType.object "java/lang/Throwable"))) ∈ lw_all := lw_g (lw_at lw_m1 149 rfl) rfl
theorem q203 : (Jvm.Cond.methodLink "java/lang/Throwable" (202 : Nat) ({ cls := "java/lang/Throwable", name := "fillInStackTrace", desc := "(I)Ljava/lang/Throwable;" } : Jvm.MethodName)) ∈ lw_all := lw_g (lw_at lw_m1 150 rfl) rfl
theorem q204 : (Jvm.Cond.privateMethod ({ cls := "java/lang/Throwable", name := "fillInStackTrace", desc := "(I)Ljava/lang/Throwable;" } : Jvm.MethodName)) ∈ lw_tbl := lw_at lw_m1 151 rfl
theorem q205 : (Jvm.Cond.instanceMethod ({ cls := "java/lang/Throwable", name := "fillInStackTrace", desc := "(I)Ljava/lang/Throwable;" } : Jvm.MethodName)) ∈ lw_all := lw_g (lw_at lw_m1 152 rfl) rfl
theorem q206 : (Jvm.Cond.instantiable "java/lang/Throwable" (6 : Nat)) ∈ lw_all := lw_g (lw_at lw_m1 153 rfl) rfl
theorem q207 : (Jvm.Cond.native ({ cls := "java/lang/Throwable", name := "fillInStackTrace", desc := "(I)Ljava/lang/Throwable;" } : Jvm.MethodName)) ∈ lw_all := lw_g (lw_at lw_m1 154 rfl) rfl
theorem q208 : (Jvm.Cond.fieldLink "java/lang/Throwable" (198 : Nat) "java/lang/Throwable" "backtrace" "Ljava/lang/Object;") ∈ lw_all := lw_g (lw_at lw_m1 155 rfl) rfl
theorem q209 : (Jvm.Cond.fieldLink "java/lang/Throwable" (31 : Nat) "java/lang/Throwable" "detailMessage" "Ljava/lang/String;") ∈ lw_all := lw_g (lw_at lw_m1 156 rfl) rfl
theorem q210 : (Jvm.Cond.fieldLink "java/lang/Throwable" (7 : Nat) "java/lang/Throwable" "cause" "Ljava/lang/Throwable;") ∈ lw_all := lw_g (lw_at lw_m1 157 rfl) rfl
theorem q211 : (Jvm.Cond.fieldLink "java/lang/Throwable" (17 : Nat) "java/lang/Throwable" "stackTrace" "[Ljava/lang/StackTraceElement;") ∈ lw_all := lw_g (lw_at lw_m1 158 rfl) rfl
theorem q212 : (Jvm.Cond.fieldLink "java/lang/Throwable" (24 : Nat) "java/lang/Throwable" "suppressedExceptions" "Ljava/util/List;") ∈ lw_all := lw_g (lw_at lw_m1 159 rfl) rfl
theorem q214 : (Jvm.Cond.soleField "java/lang/Throwable" "backtrace") ∈ lw_all := lw_g (lw_at lw_m1 161 rfl) rfl
theorem q216 : (Jvm.Cond.soleField "java/lang/Throwable" "detailMessage") ∈ lw_all := lw_g (lw_at lw_m1 163 rfl) rfl
theorem q218 : (Jvm.Cond.soleField "java/lang/Throwable" "cause") ∈ lw_all := lw_g (lw_at lw_m1 165 rfl) rfl
theorem q220 : (Jvm.Cond.soleField "java/lang/Throwable" "stackTrace") ∈ lw_all := lw_g (lw_at lw_m1 167 rfl) rfl
theorem q222 : (Jvm.Cond.soleField "java/lang/Throwable" "depth") ∈ lw_all := lw_g (lw_at lw_m1 169 rfl) rfl
theorem q224 : (Jvm.Cond.soleField "java/lang/Throwable" "suppressedExceptions") ∈ lw_all := lw_g (lw_at lw_m1 171 rfl) rfl
theorem q231 : (Jvm.Cond.declares ({ cls := "java/lang/Throwable", name := "<init>", desc := "()V" } : Jvm.MethodName)) ∈ lw_tbl := lw_at lw_m1 178 rfl
theorem q232 : (Jvm.Cond.declares ({ cls := "java/lang/Throwable", name := "<init>", desc := "(Ljava/lang/String;)V" } : Jvm.MethodName)) ∈ lw_tbl := lw_at lw_m1 179 rfl
theorem q234 : (Jvm.Cond.lays "java/lang/Throwable" "java/lang/Throwable" "cause" "Ljava/lang/Throwable;") ∈ lw_all := lw_g (lw_at lw_m1 181 rfl) rfl
theorem q235 : (Jvm.Cond.lays "java/lang/Throwable" "java/lang/Throwable" "stackTrace" "[Ljava/lang/StackTraceElement;") ∈ lw_all := lw_g (lw_at lw_m1 182 rfl) rfl
theorem q236 : (Jvm.Cond.lays "java/lang/Throwable" "java/lang/Throwable" "suppressedExceptions" "Ljava/util/List;") ∈ lw_all := lw_g (lw_at lw_m1 183 rfl) rfl
theorem q237 : (Jvm.Cond.lays "java/lang/Throwable" "java/lang/Throwable" "detailMessage" "Ljava/lang/String;") ∈ lw_all := lw_g (lw_at lw_m1 184 rfl) rfl
theorem q238 : (Jvm.Cond.lays "java/lang/Throwable" "java/lang/Throwable" "backtrace" "Ljava/lang/Object;") ∈ lw_all := lw_g (lw_at lw_m1 185 rfl) rfl
theorem q239 : (Jvm.Cond.fieldLink "java/lang/Throwable" (198 : Nat) "java/lang/Throwable" "backtrace" "Ljava/lang/Object;") ∈ lw_all := lw_g (lw_at lw_m1 186 rfl) rfl
theorem q240 : (Jvm.Cond.superclass "java/lang/Throwable" "java/lang/Object") ∈ lw_all := lw_g (lw_at lw_m1 187 rfl) rfl
theorem q241 : (Jvm.Cond.instanceMethod ({ cls := "java/lang/Throwable", name := "<init>", desc := "()V" } : Jvm.MethodName)) ∈ lw_all := lw_g (lw_at lw_m1 188 rfl) rfl
theorem q242 : (Jvm.Cond.code ({ cls := "java/lang/Throwable", name := "<init>", desc := "()V" } : Jvm.MethodName) prog_24_method_1_code (1 : Nat) (Option.none : Option Jvm.ClassFile.FieldType)) ∈ lw_all := lw_g (lw_at lw_m1 189 rfl) rfl
theorem q1135 : (Jvm.Cond.sameMethod "java/lang/Throwable" "java/lang/Throwable" "fillInStackTrace" "(I)Ljava/lang/Throwable;") ∈ lw_all := lw_g (lw_at lw_m5 122 rfl) rfl
theorem q1158 : (Jvm.Cond.castable "java/lang/Throwable" "java/lang/Object") ∈ lw_tbl := lw_at lw_m5 145 rfl
theorem in_J0 : ∀ w ∈ wsJ00, w ∈ lw_all := lw_in wsJ00 [234, 235, 236, 237, 238] (by decide +kernel) (by decide +kernel)

/-! java/lang/Exception -/
set_option maxRecDepth 100000
def RJ1 : String := "java/lang/Exception"
abbrev cJ1_init : ByteArray := prog_13_method_2_code
def yJ1_init : MethodName := ⟨RJ1, "<init>", "(Ljava/lang/String;)V"⟩
def dkwJ1_init_0 : List UInt8 := [42, 43, 183, 0, 7, 177]
abbrev dktJ1_init_0 : List UInt8 := dkwJ1_init_0 ++ []
theorem dksJ1_init_0 : cJ1_init.data.toList.drop 0 = dktJ1_init_0 := by decide +kernel
theorem dJ1_init_0 : decode cJ1_init 0 = .ok (.aload_n 0, 1) := dk_42 (dk_at dksJ1_init_0 0 rfl rfl)
theorem dJ1_init_1 : decode cJ1_init 1 = .ok (.aload_n 1, 1) := dk_43 (dk_at dksJ1_init_0 1 rfl rfl)
theorem dJ1_init_2 : decode cJ1_init 2 = .ok (.invokespecial 7, 3) := dk_183 0 7 (dk_at dksJ1_init_0 2 rfl rfl)
theorem dJ1_init_5 : decode cJ1_init 5 = .ok (.return_, 1) := dk_177 (dk_at dksJ1_init_0 5 rfl rfl)
abbrev cJ1_init_2 : ByteArray := prog_13_method_1_code
def yJ1_init_2 : MethodName := ⟨RJ1, "<init>", "()V"⟩
theorem dJ1_init_2_0 : decode cJ1_init_2 0 = .ok (.aload_n 0, 1) := by decide +kernel
theorem dJ1_init_2_1 : decode cJ1_init_2 1 = .ok (.invokespecial 1, 3) := by decide +kernel
theorem dJ1_init_2_4 : decode cJ1_init_2 4 = .ok (.return_, 1) := by decide +kernel
theorem q59 : (Jvm.Cond.initialized "java/lang/Exception") ∈ lw_all := lw_g (lw_at lw_m1 6 rfl) rfl
theorem q168 : (Jvm.Cond.instanceMethod ({ cls := "java/lang/Exception", name := "<init>", desc := "(Ljava/lang/String;)V" } : Jvm.MethodName)) ∈ lw_all := lw_g (lw_at lw_m1 115 rfl) rfl
theorem q169 : (Jvm.Cond.code ({ cls := "java/lang/Exception", name := "<init>", desc := "(Ljava/lang/String;)V" } : Jvm.MethodName) prog_13_method_2_code (2 : Nat) (Option.none : Option Jvm.ClassFile.FieldType)) ∈ lw_all := lw_g (lw_at lw_m1 116 rfl) rfl
theorem q170 : (Jvm.Cond.methodLink "java/lang/Exception" (7 : Nat) ({ cls := "java/lang/Throwable", name := "<init>", desc := "(Ljava/lang/String;)V" } : Jvm.MethodName)) ∈ lw_all := lw_g (lw_at lw_m1 117 rfl) rfl
theorem q200 : (Jvm.Cond.superclass "java/lang/Exception" "java/lang/Throwable") ∈ lw_all := lw_g (lw_at lw_m1 147 rfl) rfl
theorem q229 : (Jvm.Cond.declares ({ cls := "java/lang/Exception", name := "<init>", desc := "()V" } : Jvm.MethodName)) ∈ lw_tbl := lw_at lw_m1 176 rfl
theorem q230 : (Jvm.Cond.declares ({ cls := "java/lang/Exception", name := "<init>", desc := "(Ljava/lang/String;)V" } : Jvm.MethodName)) ∈ lw_tbl := lw_at lw_m1 177 rfl
theorem q310 : (Jvm.Cond.instanceMethod ({ cls := "java/lang/Exception", name := "<init>", desc := "()V" } : Jvm.MethodName)) ∈ lw_all := lw_g (lw_at lw_m2 17 rfl) rfl
theorem q311 : (Jvm.Cond.code ({ cls := "java/lang/Exception", name := "<init>", desc := "()V" } : Jvm.MethodName) prog_13_method_1_code (1 : Nat) (Option.none : Option Jvm.ClassFile.FieldType)) ∈ lw_all := lw_g (lw_at lw_m2 18 rfl) rfl
theorem q312 : (Jvm.Cond.methodLink "java/lang/Exception" (1 : Nat) ({ cls := "java/lang/Throwable", name := "<init>", desc := "()V" } : Jvm.MethodName)) ∈ lw_all := lw_g (lw_at lw_m2 19 rfl) rfl

/-! java/lang/RuntimeException -/
set_option maxRecDepth 100000
def RJ2 : String := "java/lang/RuntimeException"
abbrev cJ2_init : ByteArray := prog_19_method_2_code
def yJ2_init : MethodName := ⟨RJ2, "<init>", "(Ljava/lang/String;)V"⟩
def dkwJ2_init_0 : List UInt8 := [42, 43, 183, 0, 7, 177]
abbrev dktJ2_init_0 : List UInt8 := dkwJ2_init_0 ++ []
theorem dksJ2_init_0 : cJ2_init.data.toList.drop 0 = dktJ2_init_0 := by decide +kernel
theorem dJ2_init_0 : decode cJ2_init 0 = .ok (.aload_n 0, 1) := dk_42 (dk_at dksJ2_init_0 0 rfl rfl)
theorem dJ2_init_1 : decode cJ2_init 1 = .ok (.aload_n 1, 1) := dk_43 (dk_at dksJ2_init_0 1 rfl rfl)
theorem dJ2_init_2 : decode cJ2_init 2 = .ok (.invokespecial 7, 3) := dk_183 0 7 (dk_at dksJ2_init_0 2 rfl rfl)
theorem dJ2_init_5 : decode cJ2_init 5 = .ok (.return_, 1) := dk_177 (dk_at dksJ2_init_0 5 rfl rfl)
abbrev cJ2_init_2 : ByteArray := prog_19_method_1_code
def yJ2_init_2 : MethodName := ⟨RJ2, "<init>", "()V"⟩
theorem dJ2_init_2_0 : decode cJ2_init_2 0 = .ok (.aload_n 0, 1) := by decide +kernel
theorem dJ2_init_2_1 : decode cJ2_init_2 1 = .ok (.invokespecial 1, 3) := by decide +kernel
theorem dJ2_init_2_4 : decode cJ2_init_2 4 = .ok (.return_, 1) := by decide +kernel
theorem q60 : (Jvm.Cond.initialized "java/lang/RuntimeException") ∈ lw_all := lw_g (lw_at lw_m1 7 rfl) rfl
theorem q165 : (Jvm.Cond.instanceMethod ({ cls := "java/lang/RuntimeException", name := "<init>", desc := "(Ljava/lang/String;)V" } : Jvm.MethodName)) ∈ lw_all := lw_g (lw_at lw_m1 112 rfl) rfl
theorem q166 : (Jvm.Cond.code ({ cls := "java/lang/RuntimeException", name := "<init>", desc := "(Ljava/lang/String;)V" } : Jvm.MethodName) prog_19_method_2_code (2 : Nat) (Option.none : Option Jvm.ClassFile.FieldType)) ∈ lw_all := lw_g (lw_at lw_m1 113 rfl) rfl
theorem q167 : (Jvm.Cond.methodLink "java/lang/RuntimeException" (7 : Nat) ({ cls := "java/lang/Exception", name := "<init>", desc := "(Ljava/lang/String;)V" } : Jvm.MethodName)) ∈ lw_all := lw_g (lw_at lw_m1 114 rfl) rfl
theorem q196 : (Jvm.Cond.sameMethod "java/lang/RuntimeException" "java/lang/Throwable" "fillInStackTrace" "()Ljava/lang/Throwable;") ∈ lw_all := lw_g (lw_at lw_m1 143 rfl) rfl
theorem q199 : (Jvm.Cond.superclass "java/lang/RuntimeException" "java/lang/Exception") ∈ lw_all := lw_g (lw_at lw_m1 146 rfl) rfl
theorem q227 : (Jvm.Cond.declares ({ cls := "java/lang/RuntimeException", name := "<init>", desc := "()V" } : Jvm.MethodName)) ∈ lw_tbl := lw_at lw_m1 174 rfl
theorem q228 : (Jvm.Cond.declares ({ cls := "java/lang/RuntimeException", name := "<init>", desc := "(Ljava/lang/String;)V" } : Jvm.MethodName)) ∈ lw_tbl := lw_at lw_m1 175 rfl
theorem q307 : (Jvm.Cond.instanceMethod ({ cls := "java/lang/RuntimeException", name := "<init>", desc := "()V" } : Jvm.MethodName)) ∈ lw_all := lw_g (lw_at lw_m2 14 rfl) rfl
theorem q308 : (Jvm.Cond.code ({ cls := "java/lang/RuntimeException", name := "<init>", desc := "()V" } : Jvm.MethodName) prog_19_method_1_code (1 : Nat) (Option.none : Option Jvm.ClassFile.FieldType)) ∈ lw_all := lw_g (lw_at lw_m2 15 rfl) rfl
theorem q309 : (Jvm.Cond.methodLink "java/lang/RuntimeException" (1 : Nat) ({ cls := "java/lang/Exception", name := "<init>", desc := "()V" } : Jvm.MethodName)) ∈ lw_all := lw_g (lw_at lw_m2 16 rfl) rfl
theorem q327 : (Jvm.Cond.castable "java/lang/RuntimeException" "java/lang/Throwable") ∈ lw_tbl := lw_at lw_m2 34 rfl

/-! java/lang/NegativeArraySizeException -/
set_option maxRecDepth 100000
def RJ3 : String := "java/lang/NegativeArraySizeException"
def TJ3 : u_T := fun k => match k with
  | 0 => ("java/lang/Throwable", "backtrace", "Ljava/lang/Object;", false)
  | 1 => ("java/lang/Throwable", "detailMessage", "Ljava/lang/String;", false)
  | 2 => ("java/lang/Throwable", "cause", "Ljava/lang/Throwable;", false)
  | 3 => ("java/lang/Throwable", "stackTrace", "[Ljava/lang/StackTraceElement;", false)
  | 4 => ("java/lang/Throwable", "depth", "I", false)
  | _ => ("java/lang/Throwable", "suppressedExceptions", "Ljava/util/List;", false)
def tyJ3 : Nat → FieldType := fun k => match k with
  | 0 => .object "java/lang/Object"
  | 1 => .object "java/lang/String"
  | 2 => .object "java/lang/Throwable"
  | 3 => .array (.object "java/lang/StackTraceElement")
  | 4 => .int
  | _ => .object "java/util/List"
abbrev wsJ30 : List Cond := u_ws RJ3 TJ3 6
theorem nmJ3 : ∀ a, a < 6 → ∀ b, b < 6 → a ≠ b → (TJ3 a).2.1 ≠ (TJ3 b).2.1 := by decide +kernel
theorem tyJ3_ok : ∀ k, k < 6 → parseFieldDescriptor (TJ3 k).2.2.1 = some (tyJ3 k) := by decide +kernel
abbrev cJ3_init : ByteArray := prog_17_method_2_code
def yJ3_init : MethodName := ⟨RJ3, "<init>", "(Ljava/lang/String;)V"⟩
def dkwJ3_init_0 : List UInt8 := [42, 43, 183, 0, 7, 177]
abbrev dktJ3_init_0 : List UInt8 := dkwJ3_init_0 ++ []
theorem dksJ3_init_0 : cJ3_init.data.toList.drop 0 = dktJ3_init_0 := by decide +kernel
theorem dJ3_init_0 : decode cJ3_init 0 = .ok (.aload_n 0, 1) := dk_42 (dk_at dksJ3_init_0 0 rfl rfl)
theorem dJ3_init_1 : decode cJ3_init 1 = .ok (.aload_n 1, 1) := dk_43 (dk_at dksJ3_init_0 1 rfl rfl)
theorem dJ3_init_2 : decode cJ3_init 2 = .ok (.invokespecial 7, 3) := dk_183 0 7 (dk_at dksJ3_init_0 2 rfl rfl)
theorem dJ3_init_5 : decode cJ3_init 5 = .ok (.return_, 1) := dk_177 (dk_at dksJ3_init_0 5 rfl rfl)
theorem q61 : (Jvm.Cond.initialized "java/lang/NegativeArraySizeException") ∈ lw_all := lw_g (lw_at lw_m1 8 rfl) rfl
theorem q161 : (Jvm.Cond.instantiable "java/lang/NegativeArraySizeException" (6 : Nat)) ∈ lw_all := lw_g (lw_at lw_m1 108 rfl) rfl
theorem q162 : (Jvm.Cond.instanceMethod ({ cls := "java/lang/NegativeArraySizeException", name := "<init>", desc := "(Ljava/lang/String;)V" } : Jvm.MethodName)) ∈ lw_all := lw_g (lw_at lw_m1 109 rfl) rfl
theorem q163 : (Jvm.Cond.code ({ cls := "java/lang/NegativeArraySizeException", name := "<init>", desc := "(Ljava/lang/String;)V" } : Jvm.MethodName) prog_17_method_2_code (2 : Nat) (Option.none : Option Jvm.ClassFile.FieldType)) ∈ lw_all := lw_g (lw_at lw_m1 110 rfl) rfl
theorem q164 : (Jvm.Cond.methodLink "java/lang/NegativeArraySizeException" (7 : Nat) ({ cls := "java/lang/RuntimeException", name := "<init>", desc := "(Ljava/lang/String;)V" } : Jvm.MethodName)) ∈ lw_all := lw_g (lw_at lw_m1 111 rfl) rfl
theorem q186 : (Jvm.Cond.selects "java/lang/NegativeArraySizeException" ({ cls := "java/lang/Throwable", name := "fillInStackTrace", desc := "()Ljava/lang/Throwable;" } : Jvm.MethodName) ({ cls := "java/lang/Throwable", name := "fillInStackTrace", desc := "()Ljava/lang/Throwable;" } : Jvm.MethodName)) ∈ lw_all := lw_g (lw_at lw_m1 133 rfl) rfl
theorem q213 : (Jvm.Cond.lays "java/lang/NegativeArraySizeException" "java/lang/Throwable" "backtrace" "Ljava/lang/Object;") ∈ lw_all := lw_g (lw_at lw_m1 160 rfl) rfl
theorem q215 : (Jvm.Cond.lays "java/lang/NegativeArraySizeException" "java/lang/Throwable" "detailMessage" "Ljava/lang/String;") ∈ lw_all := lw_g (lw_at lw_m1 162 rfl) rfl
theorem q217 : (Jvm.Cond.lays "java/lang/NegativeArraySizeException" "java/lang/Throwable" "cause" "Ljava/lang/Throwable;") ∈ lw_all := lw_g (lw_at lw_m1 164 rfl) rfl
theorem q219 : (Jvm.Cond.lays "java/lang/NegativeArraySizeException" "java/lang/Throwable" "stackTrace" "[Ljava/lang/StackTraceElement;") ∈ lw_all := lw_g (lw_at lw_m1 166 rfl) rfl
theorem q221 : (Jvm.Cond.lays "java/lang/NegativeArraySizeException" "java/lang/Throwable" "depth" "I") ∈ lw_all := lw_g (lw_at lw_m1 168 rfl) rfl
theorem q223 : (Jvm.Cond.lays "java/lang/NegativeArraySizeException" "java/lang/Throwable" "suppressedExceptions" "Ljava/util/List;") ∈ lw_all := lw_g (lw_at lw_m1 170 rfl) rfl
theorem q225 : (Jvm.Cond.superclass "java/lang/NegativeArraySizeException" "java/lang/RuntimeException") ∈ lw_all := lw_g (lw_at lw_m1 172 rfl) rfl
theorem q226 : (Jvm.Cond.castable "java/lang/NegativeArraySizeException" "java/lang/NegativeArraySizeException") ∈ lw_tbl := lw_at lw_m1 173 rfl
theorem q233 : (Jvm.Cond.selects "java/lang/NegativeArraySizeException" ({ cls := "java/lang/Throwable", name := "fillInStackTrace", desc := "(I)Ljava/lang/Throwable;" } : Jvm.MethodName) ({ cls := "java/lang/Throwable", name := "fillInStackTrace", desc := "(I)Ljava/lang/Throwable;" } : Jvm.MethodName)) ∈ lw_all := lw_g (lw_at lw_m1 180 rfl) rfl
theorem q1147 : (Jvm.Cond.castable "java/lang/NegativeArraySizeException" "java/lang/Object") ∈ lw_tbl := lw_at lw_m5 134 rfl
theorem in_J3 : ∀ w ∈ wsJ30, w ∈ lw_all := lw_in wsJ30 [213, 215, 217, 219, 221, 223] (by decide +kernel) (by decide +kernel)

/-! java/lang/String -/
set_option maxRecDepth 100000
def RJ4 : String := "java/lang/String"
def TJ4 : u_T := fun k => match k with
  | 0 => ("java/lang/String", "value", "[B", true)
  | _ => ("java/lang/String", "coder", "B", true)
def tyJ4 : Nat → FieldType := fun k => match k with
  | 0 => .array .byte
  | _ => .byte
abbrev wsJ40 : List Cond := u_ws RJ4 TJ4 2
theorem nmJ4 : ∀ a, a < 2 → ∀ b, b < 2 → a ≠ b → (TJ4 a).2.1 ≠ (TJ4 b).2.1 := by decide +kernel
theorem tyJ4_ok : ∀ k, k < 2 → parseFieldDescriptor (TJ4 k).2.2.1 = some (tyJ4 k) := by decide +kernel
abbrev cJ4_length : ByteArray := prog_20_method_54_code
def yJ4_length : MethodName := ⟨RJ4, "length", "()I"⟩
def dkwJ4_length_0 : List UInt8 := [42, 180, 0, 9, 190, 42, 182, 1, 79, 122, 172]
abbrev dktJ4_length_0 : List UInt8 := dkwJ4_length_0 ++ []
theorem dksJ4_length_0 : cJ4_length.data.toList.drop 0 = dktJ4_length_0 := by decide +kernel
theorem dJ4_length_0 : decode cJ4_length 0 = .ok (.aload_n 0, 1) := dk_42 (dk_at dksJ4_length_0 0 rfl rfl)
theorem dJ4_length_1 : decode cJ4_length 1 = .ok (.getfield 9, 3) := dk_180 0 9 (dk_at dksJ4_length_0 1 rfl rfl)
theorem dJ4_length_4 : decode cJ4_length 4 = .ok (.arraylength, 1) := dk_190 (dk_at dksJ4_length_0 4 rfl rfl)
theorem dJ4_length_5 : decode cJ4_length 5 = .ok (.aload_n 0, 1) := dk_42 (dk_at dksJ4_length_0 5 rfl rfl)
theorem dJ4_length_6 : decode cJ4_length 6 = .ok (.invokevirtual 335, 3) := dk_182 1 79 (dk_at dksJ4_length_0 6 rfl rfl)
theorem dJ4_length_9 : decode cJ4_length 9 = .ok (.ishr, 1) := dk_122 (dk_at dksJ4_length_0 9 rfl rfl)
theorem dJ4_length_10 : decode cJ4_length 10 = .ok (.ireturn, 1) := dk_172 (dk_at dksJ4_length_0 10 rfl rfl)
abbrev cJ4_coder : ByteArray := prog_20_method_152_code
def yJ4_coder : MethodName := ⟨RJ4, "coder", "()B"⟩
def dkwJ4_coder_0 : List UInt8 := [178, 0, 38, 153, 0, 10, 42, 180, 0, 15, 167, 0, 4, 4, 172]
abbrev dktJ4_coder_0 : List UInt8 := dkwJ4_coder_0 ++ []
theorem dksJ4_coder_0 : cJ4_coder.data.toList.drop 0 = dktJ4_coder_0 := by decide +kernel
theorem dJ4_coder_0 : decode cJ4_coder 0 = .ok (.getstatic 38, 3) := dk_178 0 38 (dk_at dksJ4_coder_0 0 rfl rfl)
theorem dJ4_coder_3 : decode cJ4_coder 3 = .ok (.ifCond .eq 10, 3) := dk_153 0 10 (dk_at dksJ4_coder_0 3 rfl rfl)
theorem dJ4_coder_6 : decode cJ4_coder 6 = .ok (.aload_n 0, 1) := dk_42 (dk_at dksJ4_coder_0 6 rfl rfl)
theorem dJ4_coder_7 : decode cJ4_coder 7 = .ok (.getfield 15, 3) := dk_180 0 15 (dk_at dksJ4_coder_0 7 rfl rfl)
theorem dJ4_coder_10 : decode cJ4_coder 10 = .ok (.goto 4, 3) := dk_167 0 4 (dk_at dksJ4_coder_0 10 rfl rfl)
theorem dJ4_coder_13 : decode cJ4_coder 13 = .ok (.iconst 1, 1) := dk_4 (dk_at dksJ4_coder_0 13 rfl rfl)
theorem dJ4_coder_14 : decode cJ4_coder 14 = .ok (.ireturn, 1) := dk_172 (dk_at dksJ4_coder_0 14 rfl rfl)
abbrev cJ4_charAt : ByteArray := prog_20_method_56_code
def yJ4_charAt : MethodName := ⟨RJ4, "charAt", "(I)C"⟩
def dkwJ4_charAt_1 : List UInt8 := [172]
abbrev dktJ4_charAt_1 : List UInt8 := dkwJ4_charAt_1 ++ []
def dkwJ4_charAt_0 : List UInt8 := [42, 182, 1, 236, 153, 0, 12, 42, 180, 0, 9, 27, 184, 1, 239, 172, 42, 180, 0, 9, 27, 184, 1, 242]
abbrev dktJ4_charAt_0 : List UInt8 := dkwJ4_charAt_0 ++ dktJ4_charAt_1
theorem dksJ4_charAt_0 : cJ4_charAt.data.toList.drop 0 = dktJ4_charAt_0 := by decide +kernel
theorem dksJ4_charAt_1 : cJ4_charAt.data.toList.drop 24 = dktJ4_charAt_1 := dk_seg dksJ4_charAt_0 24 rfl rfl
theorem dJ4_charAt_0 : decode cJ4_charAt 0 = .ok (.aload_n 0, 1) := dk_42 (dk_at dksJ4_charAt_0 0 rfl rfl)
theorem dJ4_charAt_1 : decode cJ4_charAt 1 = .ok (.invokevirtual 492, 3) := dk_182 1 236 (dk_at dksJ4_charAt_0 1 rfl rfl)
theorem dJ4_charAt_4 : decode cJ4_charAt 4 = .ok (.ifCond .eq 12, 3) := dk_153 0 12 (dk_at dksJ4_charAt_0 4 rfl rfl)
theorem dJ4_charAt_7 : decode cJ4_charAt 7 = .ok (.aload_n 0, 1) := dk_42 (dk_at dksJ4_charAt_0 7 rfl rfl)
theorem dJ4_charAt_8 : decode cJ4_charAt 8 = .ok (.getfield 9, 3) := dk_180 0 9 (dk_at dksJ4_charAt_0 8 rfl rfl)
theorem dJ4_charAt_11 : decode cJ4_charAt 11 = .ok (.iload_n 1, 1) := dk_27 (dk_at dksJ4_charAt_0 11 rfl rfl)
theorem dJ4_charAt_12 : decode cJ4_charAt 12 = .ok (.invokestatic 495, 3) := dk_184 1 239 (dk_at dksJ4_charAt_0 12 rfl rfl)
theorem dJ4_charAt_15 : decode cJ4_charAt 15 = .ok (.ireturn, 1) := dk_172 (dk_at dksJ4_charAt_0 15 rfl rfl)
theorem dJ4_charAt_16 : decode cJ4_charAt 16 = .ok (.aload_n 0, 1) := dk_42 (dk_at dksJ4_charAt_0 16 rfl rfl)
theorem dJ4_charAt_17 : decode cJ4_charAt 17 = .ok (.getfield 9, 3) := dk_180 0 9 (dk_at dksJ4_charAt_0 17 rfl rfl)
theorem dJ4_charAt_20 : decode cJ4_charAt 20 = .ok (.iload_n 1, 1) := dk_27 (dk_at dksJ4_charAt_0 20 rfl rfl)
theorem dJ4_charAt_21 : decode cJ4_charAt 21 = .ok (.invokestatic 498, 3) := dk_184 1 242 (dk_at dksJ4_charAt_0 21 rfl rfl)
theorem dJ4_charAt_24 : decode cJ4_charAt 24 = .ok (.ireturn, 1) := dk_172 (dk_at dksJ4_charAt_1 0 rfl rfl)
abbrev cJ4_isLatin1 : ByteArray := prog_20_method_154_code
def yJ4_isLatin1 : MethodName := ⟨RJ4, "isLatin1", "()Z"⟩
def dkwJ4_isLatin1_0 : List UInt8 := [178, 0, 38, 153, 0, 14, 42, 180, 0, 15, 154, 0, 7, 4, 167, 0, 4, 3, 172]
abbrev dktJ4_isLatin1_0 : List UInt8 := dkwJ4_isLatin1_0 ++ []
theorem dksJ4_isLatin1_0 : cJ4_isLatin1.data.toList.drop 0 = dktJ4_isLatin1_0 := by decide +kernel
theorem dJ4_isLatin1_0 : decode cJ4_isLatin1 0 = .ok (.getstatic 38, 3) := dk_178 0 38 (dk_at dksJ4_isLatin1_0 0 rfl rfl)
theorem dJ4_isLatin1_3 : decode cJ4_isLatin1 3 = .ok (.ifCond .eq 14, 3) := dk_153 0 14 (dk_at dksJ4_isLatin1_0 3 rfl rfl)
theorem dJ4_isLatin1_6 : decode cJ4_isLatin1 6 = .ok (.aload_n 0, 1) := dk_42 (dk_at dksJ4_isLatin1_0 6 rfl rfl)
theorem dJ4_isLatin1_7 : decode cJ4_isLatin1 7 = .ok (.getfield 15, 3) := dk_180 0 15 (dk_at dksJ4_isLatin1_0 7 rfl rfl)
theorem dJ4_isLatin1_10 : decode cJ4_isLatin1 10 = .ok (.ifCond .ne 7, 3) := dk_154 0 7 (dk_at dksJ4_isLatin1_0 10 rfl rfl)
theorem dJ4_isLatin1_13 : decode cJ4_isLatin1 13 = .ok (.iconst 1, 1) := dk_4 (dk_at dksJ4_isLatin1_0 13 rfl rfl)
theorem dJ4_isLatin1_14 : decode cJ4_isLatin1 14 = .ok (.goto 4, 3) := dk_167 0 4 (dk_at dksJ4_isLatin1_0 14 rfl rfl)
theorem dJ4_isLatin1_17 : decode cJ4_isLatin1 17 = .ok (.iconst 0, 1) := dk_3 (dk_at dksJ4_isLatin1_0 17 rfl rfl)
theorem dJ4_isLatin1_18 : decode cJ4_isLatin1 18 = .ok (.ireturn, 1) := dk_172 (dk_at dksJ4_isLatin1_0 18 rfl rfl)
abbrev cJ4_checkIndex : ByteArray := prog_20_method_155_code
def yJ4_checkIndex : MethodName := ⟨RJ4, "checkIndex", "(II)V"⟩
def dkwJ4_checkIndex_0 : List UInt8 := [26, 27, 178, 4, 29, 184, 4, 35, 87, 177]
abbrev dktJ4_checkIndex_0 : List UInt8 := dkwJ4_checkIndex_0 ++ []
theorem dksJ4_checkIndex_0 : cJ4_checkIndex.data.toList.drop 0 = dktJ4_checkIndex_0 := by decide +kernel
theorem dJ4_checkIndex_0 : decode cJ4_checkIndex 0 = .ok (.iload_n 0, 1) := dk_26 (dk_at dksJ4_checkIndex_0 0 rfl rfl)
theorem dJ4_checkIndex_1 : decode cJ4_checkIndex 1 = .ok (.iload_n 1, 1) := dk_27 (dk_at dksJ4_checkIndex_0 1 rfl rfl)
theorem dJ4_checkIndex_2 : decode cJ4_checkIndex 2 = .ok (.getstatic 1053, 3) := dk_178 4 29 (dk_at dksJ4_checkIndex_0 2 rfl rfl)
theorem dJ4_checkIndex_5 : decode cJ4_checkIndex 5 = .ok (.invokestatic 1059, 3) := dk_184 4 35 (dk_at dksJ4_checkIndex_0 5 rfl rfl)
theorem dJ4_checkIndex_8 : decode cJ4_checkIndex 8 = .ok (.pop, 1) := dk_87 (dk_at dksJ4_checkIndex_0 8 rfl rfl)
theorem dJ4_checkIndex_9 : decode cJ4_checkIndex 9 = .ok (.return_, 1) := dk_177 (dk_at dksJ4_checkIndex_0 9 rfl rfl)
theorem q62 : (Jvm.Cond.initialized "java/lang/String") ∈ lw_all := lw_g (lw_at lw_m1 9 rfl) rfl
theorem q243 : (Jvm.Cond.instantiable "java/lang/String" (4 : Nat)) ∈ lw_all := lw_g (lw_at lw_m1 190 rfl) rfl
theorem q244 : (Jvm.Cond.laysFinal "java/lang/String" "java/lang/String" "value" "[B") ∈ lw_all := lw_g (lw_at lw_m1 191 rfl) rfl
theorem q245 : (Jvm.Cond.soleField "java/lang/String" "value") ∈ lw_all := lw_g (lw_at lw_m1 192 rfl) rfl
theorem q246 : (Jvm.Cond.laysFinal "java/lang/String" "java/lang/String" "coder" "B") ∈ lw_all := lw_g (lw_at lw_m1 193 rfl) rfl
theorem q247 : (Jvm.Cond.soleField "java/lang/String" "coder") ∈ lw_all := lw_g (lw_at lw_m1 194 rfl) rfl
theorem q644 : (Jvm.Cond.instanceMethod ({ cls := "java/lang/String", name := "length", desc := "()I" } : Jvm.MethodName)) ∈ lw_all := lw_g (lw_at lw_m3 111 rfl) rfl
theorem q645 : (Jvm.Cond.selects "java/lang/String" ({ cls := "java/lang/String", name := "length", desc := "()I" } : Jvm.MethodName) ({ cls := "java/lang/String", name := "length", desc := "()I" } : Jvm.MethodName)) ∈ lw_all := lw_g (lw_at lw_m3 112 rfl) rfl
theorem q646 : (Jvm.Cond.code ({ cls := "java/lang/String", name := "length", desc := "()I" } : Jvm.MethodName) prog_20_method_54_code (1 : Nat) (Option.some Jvm.ClassFile.FieldType.int)) ∈ lw_all := lw_g (lw_at lw_m3 113 rfl) rfl
theorem q647 : (Jvm.Cond.methodLink "java/lang/String" (335 : Nat) ({ cls := "java/lang/String", name := "coder", desc := "()B" } : Jvm.MethodName)) ∈ lw_all := lw_g (lw_at lw_m3 114 rfl) rfl
theorem q648 : (Jvm.Cond.instanceMethod ({ cls := "java/lang/String", name := "coder", desc := "()B" } : Jvm.MethodName)) ∈ lw_all := lw_g (lw_at lw_m3 115 rfl) rfl
theorem q649 : (Jvm.Cond.selects "java/lang/String" ({ cls := "java/lang/String", name := "coder", desc := "()B" } : Jvm.MethodName) ({ cls := "java/lang/String", name := "coder", desc := "()B" } : Jvm.MethodName)) ∈ lw_all := lw_g (lw_at lw_m3 116 rfl) rfl
theorem q650 : (Jvm.Cond.code ({ cls := "java/lang/String", name := "coder", desc := "()B" } : Jvm.MethodName) prog_20_method_152_code (1 : Nat) (Option.some Jvm.ClassFile.FieldType.byte)) ∈ lw_all := lw_g (lw_at lw_m3 117 rfl) rfl
theorem q651 : (Jvm.Cond.fieldLink "java/lang/String" (38 : Nat) "java/lang/String" "COMPACT_STRINGS" "Z") ∈ lw_all := lw_g (lw_at lw_m3 118 rfl) rfl
theorem q652 : (Jvm.Cond.laysStatic "java/lang/String" "COMPACT_STRINGS" "Z") ∈ lw_tbl := lw_at lw_m3 119 rfl
theorem q654 : (Jvm.Cond.instanceMethod ({ cls := "java/lang/String", name := "charAt", desc := "(I)C" } : Jvm.MethodName)) ∈ lw_all := lw_g (lw_at lw_m3 121 rfl) rfl
theorem q655 : (Jvm.Cond.selects "java/lang/String" ({ cls := "java/lang/String", name := "charAt", desc := "(I)C" } : Jvm.MethodName) ({ cls := "java/lang/String", name := "charAt", desc := "(I)C" } : Jvm.MethodName)) ∈ lw_all := lw_g (lw_at lw_m3 122 rfl) rfl
theorem q656 : (Jvm.Cond.code ({ cls := "java/lang/String", name := "charAt", desc := "(I)C" } : Jvm.MethodName) prog_20_method_56_code (2 : Nat) (Option.some Jvm.ClassFile.FieldType.char)) ∈ lw_all := lw_g (lw_at lw_m3 123 rfl) rfl
theorem q657 : (Jvm.Cond.methodLink "java/lang/String" (492 : Nat) ({ cls := "java/lang/String", name := "isLatin1", desc := "()Z" } : Jvm.MethodName)) ∈ lw_all := lw_g (lw_at lw_m3 124 rfl) rfl
theorem q658 : (Jvm.Cond.instanceMethod ({ cls := "java/lang/String", name := "isLatin1", desc := "()Z" } : Jvm.MethodName)) ∈ lw_all := lw_g (lw_at lw_m3 125 rfl) rfl
theorem q659 : (Jvm.Cond.selects "java/lang/String" ({ cls := "java/lang/String", name := "isLatin1", desc := "()Z" } : Jvm.MethodName) ({ cls := "java/lang/String", name := "isLatin1", desc := "()Z" } : Jvm.MethodName)) ∈ lw_all := lw_g (lw_at lw_m3 126 rfl) rfl
theorem q660 : (Jvm.Cond.code ({ cls := "java/lang/String", name := "isLatin1", desc := "()Z" } : Jvm.MethodName) prog_20_method_154_code (1 : Nat) (Option.some Jvm.ClassFile.FieldType.boolean)) ∈ lw_all := lw_g (lw_at lw_m3 127 rfl) rfl
theorem q661 : (Jvm.Cond.methodLink "java/lang/String" (495 : Nat) ({ cls := "java/lang/StringLatin1", name := "charAt", desc := "([BI)C" } : Jvm.MethodName)) ∈ lw_all := lw_g (lw_at lw_m3 128 rfl) rfl
theorem q665 : (Jvm.Cond.static ({ cls := "java/lang/String", name := "checkIndex", desc := "(II)V" } : Jvm.MethodName)) ∈ lw_all := lw_g (lw_at lw_m3 132 rfl) rfl
theorem q666 : (Jvm.Cond.code ({ cls := "java/lang/String", name := "checkIndex", desc := "(II)V" } : Jvm.MethodName) prog_20_method_155_code (2 : Nat) (Option.none : Option Jvm.ClassFile.FieldType)) ∈ lw_all := lw_g (lw_at lw_m3 133 rfl) rfl
theorem q667 : (Jvm.Cond.fieldLink "java/lang/String" (1053 : Nat) "jdk/internal/util/Preconditions" "SIOOBE_FORMATTER" "Ljava/util/function/BiFunction;") ∈ lw_all := lw_g (lw_at lw_m3 134 rfl) rfl
theorem q669 : (Jvm.Cond.methodLink "java/lang/String" (1059 : Nat) ({ cls := "jdk/internal/util/Preconditions", name := "checkIndex", desc := "(IILjava/util/function/BiFunction;)I" } : Jvm.MethodName)) ∈ lw_all := lw_g (lw_at lw_m3 136 rfl) rfl
theorem q672 : (Jvm.Cond.methodLink "java/lang/String" (498 : Nat) ({ cls := "java/lang/StringUTF16", name := "charAt", desc := "([BI)C" } : Jvm.MethodName)) ∈ lw_all := lw_g (lw_at lw_m3 139 rfl) rfl
theorem q1159 : (Jvm.Cond.castable "java/lang/String" "java/lang/Object") ∈ lw_tbl := lw_at lw_m5 146 rfl
theorem q1164 : (Jvm.Cond.fieldLink "java/lang/String" (9 : Nat) "java/lang/String" "value" "[B") ∈ lw_all := lw_g (lw_at lw_m5 151 rfl) rfl
theorem q1165 : (Jvm.Cond.fieldLink "java/lang/String" (15 : Nat) "java/lang/String" "coder" "B") ∈ lw_all := lw_g (lw_at lw_m5 152 rfl) rfl
theorem in_J4 : ∀ w ∈ wsJ40, w ∈ lw_all := lw_in wsJ40 [244, 246] (by decide +kernel) (by decide +kernel)

/-! java/lang/NullPointerException -/
set_option maxRecDepth 100000
def RJ5 : String := "java/lang/NullPointerException"
def TJ5 : u_T := fun k => match k with
  | 0 => ("java/lang/Throwable", "backtrace", "Ljava/lang/Object;", false)
  | 1 => ("java/lang/Throwable", "detailMessage", "Ljava/lang/String;", false)
  | 2 => ("java/lang/Throwable", "cause", "Ljava/lang/Throwable;", false)
  | 3 => ("java/lang/Throwable", "stackTrace", "[Ljava/lang/StackTraceElement;", false)
  | 4 => ("java/lang/Throwable", "depth", "I", false)
  | 5 => ("java/lang/Throwable", "suppressedExceptions", "Ljava/util/List;", false)
  | 6 => ("java/lang/NullPointerException", "extendedMessageState", "I", false)
  | _ => ("java/lang/NullPointerException", "extendedMessage", "Ljava/lang/String;", false)
def tyJ5 : Nat → FieldType := fun k => match k with
  | 0 => .object "java/lang/Object"
  | 1 => .object "java/lang/String"
  | 2 => .object "java/lang/Throwable"
  | 3 => .array (.object "java/lang/StackTraceElement")
  | 4 => .int
  | 5 => .object "java/util/List"
  | 6 => .int
  | _ => .object "java/lang/String"
abbrev wsJ50 : List Cond := u_ws RJ5 TJ5 8
theorem nmJ5 : ∀ a, a < 8 → ∀ b, b < 8 → a ≠ b → (TJ5 a).2.1 ≠ (TJ5 b).2.1 := by decide +kernel
theorem tyJ5_ok : ∀ k, k < 8 → parseFieldDescriptor (TJ5 k).2.2.1 = some (tyJ5 k) := by decide +kernel
abbrev cJ5_init : ByteArray := prog_18_method_1_code
def yJ5_init : MethodName := ⟨RJ5, "<init>", "()V"⟩
theorem dJ5_init_0 : decode cJ5_init 0 = .ok (.aload_n 0, 1) := by decide +kernel
theorem dJ5_init_1 : decode cJ5_init 1 = .ok (.invokespecial 1, 3) := by decide +kernel
theorem dJ5_init_4 : decode cJ5_init 4 = .ok (.return_, 1) := by decide +kernel
theorem q66 : (Jvm.Cond.initialized "java/lang/NullPointerException") ∈ lw_all := lw_g (lw_at lw_m1 13 rfl) rfl
theorem q187 : (Jvm.Cond.selects "java/lang/NullPointerException" ({ cls := "java/lang/Throwable", name := "fillInStackTrace", desc := "()Ljava/lang/Throwable;" } : Jvm.MethodName) ({ cls := "java/lang/NullPointerException", name := "fillInStackTrace", desc := "()Ljava/lang/Throwable;" } : Jvm.MethodName)) ∈ lw_all := lw_g (lw_at lw_m1 134 rfl) rfl
theorem q188 : (Jvm.Cond.instanceMethod ({ cls := "java/lang/NullPointerException", name := "fillInStackTrace", desc := "()Ljava/lang/Throwable;" } : Jvm.MethodName)) ∈ lw_all := lw_g (lw_at lw_m1 135 rfl) rfl
theorem q189 : (Jvm.Cond.codeSync ({ cls := "java/lang/NullPointerException", name := "fillInStackTrace", desc := "()Ljava/lang/Throwable;" } : Jvm.MethodName) prog_18_method_3_code (1 : Nat) (Option.some (Jvm.ClassFile.FieldType.object "java/lang/Throwable"))) ∈ lw_all := lw_g (lw_at lw_m1 136 rfl) rfl
theorem q190 : (Jvm.Cond.methodLink "java/lang/NullPointerException" (16 : Nat) ({ cls := "java/lang/NullPointerException", name := "getExtendedNPEMessage", desc := "()Ljava/lang/String;" } : Jvm.MethodName)) ∈ lw_all := lw_g (lw_at lw_m1 137 rfl) rfl
theorem q191 : (Jvm.Cond.privateMethod ({ cls := "java/lang/NullPointerException", name := "getExtendedNPEMessage", desc := "()Ljava/lang/String;" } : Jvm.MethodName)) ∈ lw_tbl := lw_at lw_m1 138 rfl
theorem q192 : (Jvm.Cond.instanceMethod ({ cls := "java/lang/NullPointerException", name := "getExtendedNPEMessage", desc := "()Ljava/lang/String;" } : Jvm.MethodName)) ∈ lw_all := lw_g (lw_at lw_m1 139 rfl) rfl
theorem q193 : (Jvm.Cond.instantiable "java/lang/NullPointerException" (8 : Nat)) ∈ lw_all := lw_g (lw_at lw_m1 140 rfl) rfl
theorem q194 : (Jvm.Cond.native ({ cls := "java/lang/NullPointerException", name := "getExtendedNPEMessage", desc := "()Ljava/lang/String;" } : Jvm.MethodName)) ∈ lw_all := lw_g (lw_at lw_m1 141 rfl) rfl
theorem q195 : (Jvm.Cond.methodLink "java/lang/NullPointerException" (24 : Nat) ({ cls := "java/lang/RuntimeException", name := "fillInStackTrace", desc := "()Ljava/lang/Throwable;" } : Jvm.MethodName)) ∈ lw_all := lw_g (lw_at lw_m1 142 rfl) rfl
theorem q198 : (Jvm.Cond.superclass "java/lang/NullPointerException" "java/lang/RuntimeException") ∈ lw_all := lw_g (lw_at lw_m1 145 rfl) rfl
theorem q304 : (Jvm.Cond.instanceMethod ({ cls := "java/lang/NullPointerException", name := "<init>", desc := "()V" } : Jvm.MethodName)) ∈ lw_all := lw_g (lw_at lw_m2 11 rfl) rfl
theorem q305 : (Jvm.Cond.code ({ cls := "java/lang/NullPointerException", name := "<init>", desc := "()V" } : Jvm.MethodName) prog_18_method_1_code (1 : Nat) (Option.none : Option Jvm.ClassFile.FieldType)) ∈ lw_all := lw_g (lw_at lw_m2 12 rfl) rfl
theorem q306 : (Jvm.Cond.methodLink "java/lang/NullPointerException" (1 : Nat) ({ cls := "java/lang/RuntimeException", name := "<init>", desc := "()V" } : Jvm.MethodName)) ∈ lw_all := lw_g (lw_at lw_m2 13 rfl) rfl
theorem q313 : (Jvm.Cond.fieldLink "java/lang/NullPointerException" (10 : Nat) "java/lang/NullPointerException" "extendedMessageState" "I") ∈ lw_all := lw_g (lw_at lw_m2 20 rfl) rfl
theorem q314 : (Jvm.Cond.fieldLink "java/lang/NullPointerException" (20 : Nat) "java/lang/NullPointerException" "extendedMessage" "Ljava/lang/String;") ∈ lw_all := lw_g (lw_at lw_m2 21 rfl) rfl
theorem q315 : (Jvm.Cond.lays "java/lang/NullPointerException" "java/lang/NullPointerException" "extendedMessageState" "I") ∈ lw_all := lw_g (lw_at lw_m2 22 rfl) rfl
theorem q316 : (Jvm.Cond.soleField "java/lang/NullPointerException" "extendedMessageState") ∈ lw_all := lw_g (lw_at lw_m2 23 rfl) rfl
theorem q317 : (Jvm.Cond.lays "java/lang/NullPointerException" "java/lang/NullPointerException" "extendedMessage" "Ljava/lang/String;") ∈ lw_all := lw_g (lw_at lw_m2 24 rfl) rfl
theorem q318 : (Jvm.Cond.soleField "java/lang/NullPointerException" "extendedMessage") ∈ lw_all := lw_g (lw_at lw_m2 25 rfl) rfl
theorem q319 : (Jvm.Cond.lays "java/lang/NullPointerException" "java/lang/Throwable" "backtrace" "Ljava/lang/Object;") ∈ lw_all := lw_g (lw_at lw_m2 26 rfl) rfl
theorem q320 : (Jvm.Cond.lays "java/lang/NullPointerException" "java/lang/Throwable" "detailMessage" "Ljava/lang/String;") ∈ lw_all := lw_g (lw_at lw_m2 27 rfl) rfl
theorem q321 : (Jvm.Cond.lays "java/lang/NullPointerException" "java/lang/Throwable" "cause" "Ljava/lang/Throwable;") ∈ lw_all := lw_g (lw_at lw_m2 28 rfl) rfl
theorem q322 : (Jvm.Cond.lays "java/lang/NullPointerException" "java/lang/Throwable" "stackTrace" "[Ljava/lang/StackTraceElement;") ∈ lw_all := lw_g (lw_at lw_m2 29 rfl) rfl
theorem q323 : (Jvm.Cond.lays "java/lang/NullPointerException" "java/lang/Throwable" "depth" "I") ∈ lw_all := lw_g (lw_at lw_m2 30 rfl) rfl
theorem q324 : (Jvm.Cond.lays "java/lang/NullPointerException" "java/lang/Throwable" "suppressedExceptions" "Ljava/util/List;") ∈ lw_all := lw_g (lw_at lw_m2 31 rfl) rfl
theorem q325 : (Jvm.Cond.castable "java/lang/NullPointerException" "java/lang/NullPointerException") ∈ lw_tbl := lw_at lw_m2 32 rfl
theorem q326 : (Jvm.Cond.selects "java/lang/NullPointerException" ({ cls := "java/lang/Throwable", name := "fillInStackTrace", desc := "(I)Ljava/lang/Throwable;" } : Jvm.MethodName) ({ cls := "java/lang/Throwable", name := "fillInStackTrace", desc := "(I)Ljava/lang/Throwable;" } : Jvm.MethodName)) ∈ lw_all := lw_g (lw_at lw_m2 33 rfl) rfl
theorem q1151 : (Jvm.Cond.castable "java/lang/NullPointerException" "java/lang/Object") ∈ lw_tbl := lw_at lw_m5 138 rfl
theorem in_J5 : ∀ w ∈ wsJ50, w ∈ lw_all := lw_in wsJ50 [319, 320, 321, 322, 323, 324, 315, 317] (by decide +kernel) (by decide +kernel)

/-! java/lang/IndexOutOfBoundsException -/
set_option maxRecDepth 100000
def RJ6 : String := "java/lang/IndexOutOfBoundsException"
def TJ6 : u_T := fun k => match k with
  | 0 => ("java/lang/Throwable", "cause", "Ljava/lang/Throwable;", false)
  | 1 => ("java/lang/Throwable", "stackTrace", "[Ljava/lang/StackTraceElement;", false)
  | 2 => ("java/lang/Throwable", "suppressedExceptions", "Ljava/util/List;", false)
  | 3 => ("java/lang/Throwable", "detailMessage", "Ljava/lang/String;", false)
  | 4 => ("java/lang/Throwable", "backtrace", "Ljava/lang/Object;", false)
  | _ => ("java/lang/Throwable", "depth", "I", false)
def tyJ6 : Nat → FieldType := fun k => match k with
  | 0 => .object "java/lang/Throwable"
  | 1 => .array (.object "java/lang/StackTraceElement")
  | 2 => .object "java/util/List"
  | 3 => .object "java/lang/String"
  | 4 => .object "java/lang/Object"
  | _ => .int
abbrev wsJ60 : List Cond := u_ws RJ6 TJ6 6
theorem nmJ6 : ∀ a, a < 6 → ∀ b, b < 6 → a ≠ b → (TJ6 a).2.1 ≠ (TJ6 b).2.1 := by decide +kernel
theorem tyJ6_ok : ∀ k, k < 6 → parseFieldDescriptor (TJ6 k).2.2.1 = some (tyJ6 k) := by decide +kernel
abbrev cJ6_init : ByteArray := prog_15_method_2_code
def yJ6_init : MethodName := ⟨RJ6, "<init>", "(Ljava/lang/String;)V"⟩
def dkwJ6_init_0 : List UInt8 := [42, 43, 183, 0, 7, 177]
abbrev dktJ6_init_0 : List UInt8 := dkwJ6_init_0 ++ []
theorem dksJ6_init_0 : cJ6_init.data.toList.drop 0 = dktJ6_init_0 := by decide +kernel
theorem dJ6_init_0 : decode cJ6_init 0 = .ok (.aload_n 0, 1) := dk_42 (dk_at dksJ6_init_0 0 rfl rfl)
theorem dJ6_init_1 : decode cJ6_init 1 = .ok (.aload_n 1, 1) := dk_43 (dk_at dksJ6_init_0 1 rfl rfl)
theorem dJ6_init_2 : decode cJ6_init 2 = .ok (.invokespecial 7, 3) := dk_183 0 7 (dk_at dksJ6_init_0 2 rfl rfl)
theorem dJ6_init_5 : decode cJ6_init 5 = .ok (.return_, 1) := dk_177 (dk_at dksJ6_init_0 5 rfl rfl)
abbrev cJ6_init_2 : ByteArray := prog_15_method_1_code
def yJ6_init_2 : MethodName := ⟨RJ6, "<init>", "()V"⟩
theorem dJ6_init_2_0 : decode cJ6_init_2 0 = .ok (.aload_n 0, 1) := by decide +kernel
theorem dJ6_init_2_1 : decode cJ6_init_2 1 = .ok (.invokespecial 1, 3) := by decide +kernel
theorem dJ6_init_2_4 : decode cJ6_init_2 4 = .ok (.return_, 1) := by decide +kernel
theorem q67 : (Jvm.Cond.initialized "java/lang/IndexOutOfBoundsException") ∈ lw_all := lw_g (lw_at lw_m1 14 rfl) rfl
theorem q185 : (Jvm.Cond.selects "java/lang/IndexOutOfBoundsException" ({ cls := "java/lang/Throwable", name := "fillInStackTrace", desc := "()Ljava/lang/Throwable;" } : Jvm.MethodName) ({ cls := "java/lang/Throwable", name := "fillInStackTrace", desc := "()Ljava/lang/Throwable;" } : Jvm.MethodName)) ∈ lw_all := lw_g (lw_at lw_m1 132 rfl) rfl
theorem q333 : (Jvm.Cond.instanceMethod ({ cls := "java/lang/IndexOutOfBoundsException", name := "<init>", desc := "(Ljava/lang/String;)V" } : Jvm.MethodName)) ∈ lw_all := lw_g (lw_at lw_m2 40 rfl) rfl
theorem q334 : (Jvm.Cond.code ({ cls := "java/lang/IndexOutOfBoundsException", name := "<init>", desc := "(Ljava/lang/String;)V" } : Jvm.MethodName) prog_15_method_2_code (2 : Nat) (Option.none : Option Jvm.ClassFile.FieldType)) ∈ lw_all := lw_g (lw_at lw_m2 41 rfl) rfl
theorem q335 : (Jvm.Cond.methodLink "java/lang/IndexOutOfBoundsException" (7 : Nat) ({ cls := "java/lang/RuntimeException", name := "<init>", desc := "(Ljava/lang/String;)V" } : Jvm.MethodName)) ∈ lw_all := lw_g (lw_at lw_m2 42 rfl) rfl
theorem q344 : (Jvm.Cond.declares ({ cls := "java/lang/IndexOutOfBoundsException", name := "<init>", desc := "()V" } : Jvm.MethodName)) ∈ lw_tbl := lw_at lw_m2 51 rfl
theorem q345 : (Jvm.Cond.declares ({ cls := "java/lang/IndexOutOfBoundsException", name := "<init>", desc := "(Ljava/lang/String;)V" } : Jvm.MethodName)) ∈ lw_tbl := lw_at lw_m2 52 rfl
theorem q806 : (Jvm.Cond.instantiable "java/lang/IndexOutOfBoundsException" (6 : Nat)) ∈ lw_all := lw_g (lw_at lw_m4 33 rfl) rfl
theorem q807 : (Jvm.Cond.castable "java/lang/IndexOutOfBoundsException" "java/lang/IndexOutOfBoundsException") ∈ lw_tbl := lw_at lw_m4 34 rfl
theorem q808 : (Jvm.Cond.selects "java/lang/IndexOutOfBoundsException" ({ cls := "java/lang/Throwable", name := "fillInStackTrace", desc := "(I)Ljava/lang/Throwable;" } : Jvm.MethodName) ({ cls := "java/lang/Throwable", name := "fillInStackTrace", desc := "(I)Ljava/lang/Throwable;" } : Jvm.MethodName)) ∈ lw_all := lw_g (lw_at lw_m4 35 rfl) rfl
theorem q809 : (Jvm.Cond.lays "java/lang/IndexOutOfBoundsException" "java/lang/Throwable" "cause" "Ljava/lang/Throwable;") ∈ lw_all := lw_g (lw_at lw_m4 36 rfl) rfl
theorem q810 : (Jvm.Cond.lays "java/lang/IndexOutOfBoundsException" "java/lang/Throwable" "stackTrace" "[Ljava/lang/StackTraceElement;") ∈ lw_all := lw_g (lw_at lw_m4 37 rfl) rfl
theorem q811 : (Jvm.Cond.lays "java/lang/IndexOutOfBoundsException" "java/lang/Throwable" "suppressedExceptions" "Ljava/util/List;") ∈ lw_all := lw_g (lw_at lw_m4 38 rfl) rfl
theorem q812 : (Jvm.Cond.lays "java/lang/IndexOutOfBoundsException" "java/lang/Throwable" "detailMessage" "Ljava/lang/String;") ∈ lw_all := lw_g (lw_at lw_m4 39 rfl) rfl
theorem q813 : (Jvm.Cond.lays "java/lang/IndexOutOfBoundsException" "java/lang/Throwable" "backtrace" "Ljava/lang/Object;") ∈ lw_all := lw_g (lw_at lw_m4 40 rfl) rfl
theorem q815 : (Jvm.Cond.instanceMethod ({ cls := "java/lang/IndexOutOfBoundsException", name := "<init>", desc := "()V" } : Jvm.MethodName)) ∈ lw_all := lw_g (lw_at lw_m4 42 rfl) rfl
theorem q816 : (Jvm.Cond.code ({ cls := "java/lang/IndexOutOfBoundsException", name := "<init>", desc := "()V" } : Jvm.MethodName) prog_15_method_1_code (1 : Nat) (Option.none : Option Jvm.ClassFile.FieldType)) ∈ lw_all := lw_g (lw_at lw_m4 43 rfl) rfl
theorem q817 : (Jvm.Cond.methodLink "java/lang/IndexOutOfBoundsException" (1 : Nat) ({ cls := "java/lang/RuntimeException", name := "<init>", desc := "()V" } : Jvm.MethodName)) ∈ lw_all := lw_g (lw_at lw_m4 44 rfl) rfl
theorem q818 : (Jvm.Cond.lays "java/lang/IndexOutOfBoundsException" "java/lang/Throwable" "depth" "I") ∈ lw_all := lw_g (lw_at lw_m4 45 rfl) rfl
theorem q819 : (Jvm.Cond.superclass "java/lang/IndexOutOfBoundsException" "java/lang/RuntimeException") ∈ lw_all := lw_g (lw_at lw_m4 46 rfl) rfl
theorem q1153 : (Jvm.Cond.castable "java/lang/IndexOutOfBoundsException" "java/lang/Object") ∈ lw_tbl := lw_at lw_m5 140 rfl
theorem in_J6 : ∀ w ∈ wsJ60, w ∈ lw_all := lw_in wsJ60 [809, 810, 811, 812, 813, 818] (by decide +kernel) (by decide +kernel)

/-! java/lang/ArrayIndexOutOfBoundsException -/
set_option maxRecDepth 100000
def RJ7 : String := "java/lang/ArrayIndexOutOfBoundsException"
def TJ7 : u_T := fun k => match k with
  | 0 => ("java/lang/Throwable", "backtrace", "Ljava/lang/Object;", false)
  | 1 => ("java/lang/Throwable", "detailMessage", "Ljava/lang/String;", false)
  | 2 => ("java/lang/Throwable", "cause", "Ljava/lang/Throwable;", false)
  | 3 => ("java/lang/Throwable", "stackTrace", "[Ljava/lang/StackTraceElement;", false)
  | 4 => ("java/lang/Throwable", "depth", "I", false)
  | _ => ("java/lang/Throwable", "suppressedExceptions", "Ljava/util/List;", false)
def tyJ7 : Nat → FieldType := fun k => match k with
  | 0 => .object "java/lang/Object"
  | 1 => .object "java/lang/String"
  | 2 => .object "java/lang/Throwable"
  | 3 => .array (.object "java/lang/StackTraceElement")
  | 4 => .int
  | _ => .object "java/util/List"
abbrev wsJ70 : List Cond := u_ws RJ7 TJ7 6
theorem nmJ7 : ∀ a, a < 6 → ∀ b, b < 6 → a ≠ b → (TJ7 a).2.1 ≠ (TJ7 b).2.1 := by decide +kernel
theorem tyJ7_ok : ∀ k, k < 6 → parseFieldDescriptor (TJ7 k).2.2.1 = some (tyJ7 k) := by decide +kernel
abbrev cJ7_init : ByteArray := prog_11_method_2_code
def yJ7_init : MethodName := ⟨RJ7, "<init>", "(Ljava/lang/String;)V"⟩
def dkwJ7_init_0 : List UInt8 := [42, 43, 183, 0, 7, 177]
abbrev dktJ7_init_0 : List UInt8 := dkwJ7_init_0 ++ []
theorem dksJ7_init_0 : cJ7_init.data.toList.drop 0 = dktJ7_init_0 := by decide +kernel
theorem dJ7_init_0 : decode cJ7_init 0 = .ok (.aload_n 0, 1) := dk_42 (dk_at dksJ7_init_0 0 rfl rfl)
theorem dJ7_init_1 : decode cJ7_init 1 = .ok (.aload_n 1, 1) := dk_43 (dk_at dksJ7_init_0 1 rfl rfl)
theorem dJ7_init_2 : decode cJ7_init 2 = .ok (.invokespecial 7, 3) := dk_183 0 7 (dk_at dksJ7_init_0 2 rfl rfl)
theorem dJ7_init_5 : decode cJ7_init 5 = .ok (.return_, 1) := dk_177 (dk_at dksJ7_init_0 5 rfl rfl)
theorem q68 : (Jvm.Cond.initialized "java/lang/ArrayIndexOutOfBoundsException") ∈ lw_all := lw_g (lw_at lw_m1 15 rfl) rfl
theorem q182 : (Jvm.Cond.selects "java/lang/ArrayIndexOutOfBoundsException" ({ cls := "java/lang/Throwable", name := "fillInStackTrace", desc := "()Ljava/lang/Throwable;" } : Jvm.MethodName) ({ cls := "java/lang/Throwable", name := "fillInStackTrace", desc := "()Ljava/lang/Throwable;" } : Jvm.MethodName)) ∈ lw_all := lw_g (lw_at lw_m1 129 rfl) rfl
theorem q329 : (Jvm.Cond.instantiable "java/lang/ArrayIndexOutOfBoundsException" (6 : Nat)) ∈ lw_all := lw_g (lw_at lw_m2 36 rfl) rfl
theorem q330 : (Jvm.Cond.instanceMethod ({ cls := "java/lang/ArrayIndexOutOfBoundsException", name := "<init>", desc := "(Ljava/lang/String;)V" } : Jvm.MethodName)) ∈ lw_all := lw_g (lw_at lw_m2 37 rfl) rfl
theorem q331 : (Jvm.Cond.code ({ cls := "java/lang/ArrayIndexOutOfBoundsException", name := "<init>", desc := "(Ljava/lang/String;)V" } : Jvm.MethodName) prog_11_method_2_code (2 : Nat) (Option.none : Option Jvm.ClassFile.FieldType)) ∈ lw_all := lw_g (lw_at lw_m2 38 rfl) rfl
theorem q332 : (Jvm.Cond.methodLink "java/lang/ArrayIndexOutOfBoundsException" (7 : Nat) ({ cls := "java/lang/IndexOutOfBoundsException", name := "<init>", desc := "(Ljava/lang/String;)V" } : Jvm.MethodName)) ∈ lw_all := lw_g (lw_at lw_m2 39 rfl) rfl
theorem q336 : (Jvm.Cond.lays "java/lang/ArrayIndexOutOfBoundsException" "java/lang/Throwable" "backtrace" "Ljava/lang/Object;") ∈ lw_all := lw_g (lw_at lw_m2 43 rfl) rfl
theorem q337 : (Jvm.Cond.lays "java/lang/ArrayIndexOutOfBoundsException" "java/lang/Throwable" "detailMessage" "Ljava/lang/String;") ∈ lw_all := lw_g (lw_at lw_m2 44 rfl) rfl
theorem q338 : (Jvm.Cond.lays "java/lang/ArrayIndexOutOfBoundsException" "java/lang/Throwable" "cause" "Ljava/lang/Throwable;") ∈ lw_all := lw_g (lw_at lw_m2 45 rfl) rfl
theorem q339 : (Jvm.Cond.lays "java/lang/ArrayIndexOutOfBoundsException" "java/lang/Throwable" "stackTrace" "[Ljava/lang/StackTraceElement;") ∈ lw_all := lw_g (lw_at lw_m2 46 rfl) rfl
theorem q340 : (Jvm.Cond.lays "java/lang/ArrayIndexOutOfBoundsException" "java/lang/Throwable" "depth" "I") ∈ lw_all := lw_g (lw_at lw_m2 47 rfl) rfl
theorem q341 : (Jvm.Cond.lays "java/lang/ArrayIndexOutOfBoundsException" "java/lang/Throwable" "suppressedExceptions" "Ljava/util/List;") ∈ lw_all := lw_g (lw_at lw_m2 48 rfl) rfl
theorem q342 : (Jvm.Cond.superclass "java/lang/ArrayIndexOutOfBoundsException" "java/lang/IndexOutOfBoundsException") ∈ lw_all := lw_g (lw_at lw_m2 49 rfl) rfl
theorem q343 : (Jvm.Cond.castable "java/lang/ArrayIndexOutOfBoundsException" "java/lang/ArrayIndexOutOfBoundsException") ∈ lw_tbl := lw_at lw_m2 50 rfl
theorem q346 : (Jvm.Cond.selects "java/lang/ArrayIndexOutOfBoundsException" ({ cls := "java/lang/Throwable", name := "fillInStackTrace", desc := "(I)Ljava/lang/Throwable;" } : Jvm.MethodName) ({ cls := "java/lang/Throwable", name := "fillInStackTrace", desc := "(I)Ljava/lang/Throwable;" } : Jvm.MethodName)) ∈ lw_all := lw_g (lw_at lw_m2 53 rfl) rfl
theorem q1140 : (Jvm.Cond.castable "java/lang/ArrayIndexOutOfBoundsException" "java/lang/IndexOutOfBoundsException") ∈ lw_tbl := lw_at lw_m5 127 rfl
theorem q1152 : (Jvm.Cond.castable "java/lang/ArrayIndexOutOfBoundsException" "java/lang/Object") ∈ lw_tbl := lw_at lw_m5 139 rfl
theorem in_J7 : ∀ w ∈ wsJ70, w ∈ lw_all := lw_in wsJ70 [336, 337, 338, 339, 340, 341] (by decide +kernel) (by decide +kernel)

/-! java/util/NoSuchElementException -/
set_option maxRecDepth 100000
def RJ8 : String := "java/util/NoSuchElementException"
def TJ8 : u_T := fun k => match k with
  | 0 => ("java/lang/Throwable", "cause", "Ljava/lang/Throwable;", false)
  | 1 => ("java/lang/Throwable", "stackTrace", "[Ljava/lang/StackTraceElement;", false)
  | 2 => ("java/lang/Throwable", "suppressedExceptions", "Ljava/util/List;", false)
  | 3 => ("java/lang/Throwable", "detailMessage", "Ljava/lang/String;", false)
  | 4 => ("java/lang/Throwable", "backtrace", "Ljava/lang/Object;", false)
  | _ => ("java/lang/Throwable", "depth", "I", false)
def tyJ8 : Nat → FieldType := fun k => match k with
  | 0 => .object "java/lang/Throwable"
  | 1 => .array (.object "java/lang/StackTraceElement")
  | 2 => .object "java/util/List"
  | 3 => .object "java/lang/String"
  | 4 => .object "java/lang/Object"
  | _ => .int
abbrev wsJ80 : List Cond := u_ws RJ8 TJ8 6
theorem nmJ8 : ∀ a, a < 6 → ∀ b, b < 6 → a ≠ b → (TJ8 a).2.1 ≠ (TJ8 b).2.1 := by decide +kernel
theorem tyJ8_ok : ∀ k, k < 6 → parseFieldDescriptor (TJ8 k).2.2.1 = some (tyJ8 k) := by decide +kernel
abbrev cJ8_init : ByteArray := prog_25_method_1_code
def yJ8_init : MethodName := ⟨RJ8, "<init>", "()V"⟩
theorem dJ8_init_0 : decode cJ8_init 0 = .ok (.aload_n 0, 1) := by decide +kernel
theorem dJ8_init_1 : decode cJ8_init 1 = .ok (.invokespecial 1, 3) := by decide +kernel
theorem dJ8_init_4 : decode cJ8_init 4 = .ok (.return_, 1) := by decide +kernel
theorem q69 : (Jvm.Cond.initialized "java/util/NoSuchElementException") ∈ lw_all := lw_g (lw_at lw_m1 16 rfl) rfl
theorem q201 : (Jvm.Cond.selects "java/util/NoSuchElementException" ({ cls := "java/lang/Throwable", name := "fillInStackTrace", desc := "()Ljava/lang/Throwable;" } : Jvm.MethodName) ({ cls := "java/lang/Throwable", name := "fillInStackTrace", desc := "()Ljava/lang/Throwable;" } : Jvm.MethodName)) ∈ lw_all := lw_g (lw_at lw_m1 148 rfl) rfl
theorem q821 : (Jvm.Cond.instantiable "java/util/NoSuchElementException" (6 : Nat)) ∈ lw_all := lw_g (lw_at lw_m4 48 rfl) rfl
theorem q822 : (Jvm.Cond.castable "java/util/NoSuchElementException" "java/util/NoSuchElementException") ∈ lw_tbl := lw_at lw_m4 49 rfl
theorem q823 : (Jvm.Cond.selects "java/util/NoSuchElementException" ({ cls := "java/lang/Throwable", name := "fillInStackTrace", desc := "(I)Ljava/lang/Throwable;" } : Jvm.MethodName) ({ cls := "java/lang/Throwable", name := "fillInStackTrace", desc := "(I)Ljava/lang/Throwable;" } : Jvm.MethodName)) ∈ lw_all := lw_g (lw_at lw_m4 50 rfl) rfl
theorem q824 : (Jvm.Cond.lays "java/util/NoSuchElementException" "java/lang/Throwable" "cause" "Ljava/lang/Throwable;") ∈ lw_all := lw_g (lw_at lw_m4 51 rfl) rfl
theorem q825 : (Jvm.Cond.lays "java/util/NoSuchElementException" "java/lang/Throwable" "stackTrace" "[Ljava/lang/StackTraceElement;") ∈ lw_all := lw_g (lw_at lw_m4 52 rfl) rfl
theorem q826 : (Jvm.Cond.lays "java/util/NoSuchElementException" "java/lang/Throwable" "suppressedExceptions" "Ljava/util/List;") ∈ lw_all := lw_g (lw_at lw_m4 53 rfl) rfl
theorem q827 : (Jvm.Cond.lays "java/util/NoSuchElementException" "java/lang/Throwable" "detailMessage" "Ljava/lang/String;") ∈ lw_all := lw_g (lw_at lw_m4 54 rfl) rfl
theorem q828 : (Jvm.Cond.lays "java/util/NoSuchElementException" "java/lang/Throwable" "backtrace" "Ljava/lang/Object;") ∈ lw_all := lw_g (lw_at lw_m4 55 rfl) rfl
theorem q830 : (Jvm.Cond.instanceMethod ({ cls := "java/util/NoSuchElementException", name := "<init>", desc := "()V" } : Jvm.MethodName)) ∈ lw_all := lw_g (lw_at lw_m4 57 rfl) rfl
theorem q831 : (Jvm.Cond.code ({ cls := "java/util/NoSuchElementException", name := "<init>", desc := "()V" } : Jvm.MethodName) prog_25_method_1_code (1 : Nat) (Option.none : Option Jvm.ClassFile.FieldType)) ∈ lw_all := lw_g (lw_at lw_m4 58 rfl) rfl
theorem q832 : (Jvm.Cond.methodLink "java/util/NoSuchElementException" (1 : Nat) ({ cls := "java/lang/RuntimeException", name := "<init>", desc := "()V" } : Jvm.MethodName)) ∈ lw_all := lw_g (lw_at lw_m4 59 rfl) rfl
theorem q833 : (Jvm.Cond.lays "java/util/NoSuchElementException" "java/lang/Throwable" "depth" "I") ∈ lw_all := lw_g (lw_at lw_m4 60 rfl) rfl
theorem q834 : (Jvm.Cond.superclass "java/util/NoSuchElementException" "java/lang/RuntimeException") ∈ lw_all := lw_g (lw_at lw_m4 61 rfl) rfl
theorem q1154 : (Jvm.Cond.castable "java/util/NoSuchElementException" "java/lang/Object") ∈ lw_tbl := lw_at lw_m5 141 rfl
theorem in_J8 : ∀ w ∈ wsJ80, w ∈ lw_all := lw_in wsJ80 [824, 825, 826, 827, 828, 833] (by decide +kernel) (by decide +kernel)

/-! java/lang/ClassCastException -/
set_option maxRecDepth 100000
def RJ9 : String := "java/lang/ClassCastException"
def TJ9 : u_T := fun k => match k with
  | 0 => ("java/lang/Throwable", "backtrace", "Ljava/lang/Object;", false)
  | 1 => ("java/lang/Throwable", "detailMessage", "Ljava/lang/String;", false)
  | 2 => ("java/lang/Throwable", "cause", "Ljava/lang/Throwable;", false)
  | 3 => ("java/lang/Throwable", "stackTrace", "[Ljava/lang/StackTraceElement;", false)
  | 4 => ("java/lang/Throwable", "depth", "I", false)
  | _ => ("java/lang/Throwable", "suppressedExceptions", "Ljava/util/List;", false)
def tyJ9 : Nat → FieldType := fun k => match k with
  | 0 => .object "java/lang/Object"
  | 1 => .object "java/lang/String"
  | 2 => .object "java/lang/Throwable"
  | 3 => .array (.object "java/lang/StackTraceElement")
  | 4 => .int
  | _ => .object "java/util/List"
abbrev wsJ90 : List Cond := u_ws RJ9 TJ9 6
theorem nmJ9 : ∀ a, a < 6 → ∀ b, b < 6 → a ≠ b → (TJ9 a).2.1 ≠ (TJ9 b).2.1 := by decide +kernel
theorem tyJ9_ok : ∀ k, k < 6 → parseFieldDescriptor (TJ9 k).2.2.1 = some (tyJ9 k) := by decide +kernel
abbrev cJ9_init : ByteArray := prog_12_method_2_code
def yJ9_init : MethodName := ⟨RJ9, "<init>", "(Ljava/lang/String;)V"⟩
def dkwJ9_init_0 : List UInt8 := [42, 43, 183, 0, 7, 177]
abbrev dktJ9_init_0 : List UInt8 := dkwJ9_init_0 ++ []
theorem dksJ9_init_0 : cJ9_init.data.toList.drop 0 = dktJ9_init_0 := by decide +kernel
theorem dJ9_init_0 : decode cJ9_init 0 = .ok (.aload_n 0, 1) := dk_42 (dk_at dksJ9_init_0 0 rfl rfl)
theorem dJ9_init_1 : decode cJ9_init 1 = .ok (.aload_n 1, 1) := dk_43 (dk_at dksJ9_init_0 1 rfl rfl)
theorem dJ9_init_2 : decode cJ9_init 2 = .ok (.invokespecial 7, 3) := dk_183 0 7 (dk_at dksJ9_init_0 2 rfl rfl)
theorem dJ9_init_5 : decode cJ9_init 5 = .ok (.return_, 1) := dk_177 (dk_at dksJ9_init_0 5 rfl rfl)
theorem q70 : (Jvm.Cond.initialized "java/lang/ClassCastException") ∈ lw_all := lw_g (lw_at lw_m1 17 rfl) rfl
theorem q183 : (Jvm.Cond.selects "java/lang/ClassCastException" ({ cls := "java/lang/Throwable", name := "fillInStackTrace", desc := "()Ljava/lang/Throwable;" } : Jvm.MethodName) ({ cls := "java/lang/Throwable", name := "fillInStackTrace", desc := "()Ljava/lang/Throwable;" } : Jvm.MethodName)) ∈ lw_all := lw_g (lw_at lw_m1 130 rfl) rfl
theorem q451 : (Jvm.Cond.instantiable "java/lang/ClassCastException" (6 : Nat)) ∈ lw_all := lw_g (lw_at lw_m2 158 rfl) rfl
theorem q452 : (Jvm.Cond.instanceMethod ({ cls := "java/lang/ClassCastException", name := "<init>", desc := "(Ljava/lang/String;)V" } : Jvm.MethodName)) ∈ lw_all := lw_g (lw_at lw_m2 159 rfl) rfl
theorem q453 : (Jvm.Cond.code ({ cls := "java/lang/ClassCastException", name := "<init>", desc := "(Ljava/lang/String;)V" } : Jvm.MethodName) prog_12_method_2_code (2 : Nat) (Option.none : Option Jvm.ClassFile.FieldType)) ∈ lw_all := lw_g (lw_at lw_m2 160 rfl) rfl
theorem q454 : (Jvm.Cond.methodLink "java/lang/ClassCastException" (7 : Nat) ({ cls := "java/lang/RuntimeException", name := "<init>", desc := "(Ljava/lang/String;)V" } : Jvm.MethodName)) ∈ lw_all := lw_g (lw_at lw_m2 161 rfl) rfl
theorem q455 : (Jvm.Cond.lays "java/lang/ClassCastException" "java/lang/Throwable" "backtrace" "Ljava/lang/Object;") ∈ lw_all := lw_g (lw_at lw_m2 162 rfl) rfl
theorem q456 : (Jvm.Cond.lays "java/lang/ClassCastException" "java/lang/Throwable" "detailMessage" "Ljava/lang/String;") ∈ lw_all := lw_g (lw_at lw_m2 163 rfl) rfl
theorem q457 : (Jvm.Cond.lays "java/lang/ClassCastException" "java/lang/Throwable" "cause" "Ljava/lang/Throwable;") ∈ lw_all := lw_g (lw_at lw_m2 164 rfl) rfl
theorem q458 : (Jvm.Cond.lays "java/lang/ClassCastException" "java/lang/Throwable" "stackTrace" "[Ljava/lang/StackTraceElement;") ∈ lw_all := lw_g (lw_at lw_m2 165 rfl) rfl
theorem q459 : (Jvm.Cond.lays "java/lang/ClassCastException" "java/lang/Throwable" "depth" "I") ∈ lw_all := lw_g (lw_at lw_m2 166 rfl) rfl
theorem q460 : (Jvm.Cond.lays "java/lang/ClassCastException" "java/lang/Throwable" "suppressedExceptions" "Ljava/util/List;") ∈ lw_all := lw_g (lw_at lw_m2 167 rfl) rfl
theorem q461 : (Jvm.Cond.superclass "java/lang/ClassCastException" "java/lang/RuntimeException") ∈ lw_all := lw_g (lw_at lw_m2 168 rfl) rfl
theorem q462 : (Jvm.Cond.castable "java/lang/ClassCastException" "java/lang/ClassCastException") ∈ lw_tbl := lw_at lw_m2 169 rfl
theorem q463 : (Jvm.Cond.selects "java/lang/ClassCastException" ({ cls := "java/lang/Throwable", name := "fillInStackTrace", desc := "(I)Ljava/lang/Throwable;" } : Jvm.MethodName) ({ cls := "java/lang/Throwable", name := "fillInStackTrace", desc := "(I)Ljava/lang/Throwable;" } : Jvm.MethodName)) ∈ lw_all := lw_g (lw_at lw_m2 170 rfl) rfl
theorem q1155 : (Jvm.Cond.castable "java/lang/ClassCastException" "java/lang/Object") ∈ lw_tbl := lw_at lw_m5 142 rfl
theorem in_J9 : ∀ w ∈ wsJ90, w ∈ lw_all := lw_in wsJ90 [455, 456, 457, 458, 459, 460] (by decide +kernel) (by decide +kernel)

/-! java/lang/Math -/
set_option maxRecDepth 100000
def RJ10 : String := "java/lang/Math"
abbrev cJ10_max : ByteArray := prog_16_method_66_code
def yJ10_max : MethodName := ⟨RJ10, "max", "(JJ)J"⟩
def dkwJ10_max_0 : List UInt8 := [30, 32, 148, 155, 0, 7, 30, 167, 0, 4, 32, 173]
abbrev dktJ10_max_0 : List UInt8 := dkwJ10_max_0 ++ []
theorem dksJ10_max_0 : cJ10_max.data.toList.drop 0 = dktJ10_max_0 := by decide +kernel
theorem dJ10_max_0 : decode cJ10_max 0 = .ok (.lload_n 0, 1) := dk_30 (dk_at dksJ10_max_0 0 rfl rfl)
theorem dJ10_max_1 : decode cJ10_max 1 = .ok (.lload_n 2, 1) := dk_32 (dk_at dksJ10_max_0 1 rfl rfl)
theorem dJ10_max_2 : decode cJ10_max 2 = .ok (.lcmp, 1) := dk_148 (dk_at dksJ10_max_0 2 rfl rfl)
theorem dJ10_max_3 : decode cJ10_max 3 = .ok (.ifCond .lt 7, 3) := dk_155 0 7 (dk_at dksJ10_max_0 3 rfl rfl)
theorem dJ10_max_6 : decode cJ10_max 6 = .ok (.lload_n 0, 1) := dk_30 (dk_at dksJ10_max_0 6 rfl rfl)
theorem dJ10_max_7 : decode cJ10_max 7 = .ok (.goto 4, 3) := dk_167 0 4 (dk_at dksJ10_max_0 7 rfl rfl)
theorem dJ10_max_10 : decode cJ10_max 10 = .ok (.lload_n 2, 1) := dk_32 (dk_at dksJ10_max_0 10 rfl rfl)
theorem dJ10_max_11 : decode cJ10_max 11 = .ok (.lreturn, 1) := dk_173 (dk_at dksJ10_max_0 11 rfl rfl)
abbrev cJ10_min : ByteArray := prog_16_method_70_code
def yJ10_min : MethodName := ⟨RJ10, "min", "(JJ)J"⟩
def dkwJ10_min_0 : List UInt8 := [30, 32, 148, 157, 0, 7, 30, 167, 0, 4, 32, 173]
abbrev dktJ10_min_0 : List UInt8 := dkwJ10_min_0 ++ []
theorem dksJ10_min_0 : cJ10_min.data.toList.drop 0 = dktJ10_min_0 := by decide +kernel
theorem dJ10_min_0 : decode cJ10_min 0 = .ok (.lload_n 0, 1) := dk_30 (dk_at dksJ10_min_0 0 rfl rfl)
theorem dJ10_min_1 : decode cJ10_min 1 = .ok (.lload_n 2, 1) := dk_32 (dk_at dksJ10_min_0 1 rfl rfl)
theorem dJ10_min_2 : decode cJ10_min 2 = .ok (.lcmp, 1) := dk_148 (dk_at dksJ10_min_0 2 rfl rfl)
theorem dJ10_min_3 : decode cJ10_min 3 = .ok (.ifCond .gt 7, 3) := dk_157 0 7 (dk_at dksJ10_min_0 3 rfl rfl)
theorem dJ10_min_6 : decode cJ10_min 6 = .ok (.lload_n 0, 1) := dk_30 (dk_at dksJ10_min_0 6 rfl rfl)
theorem dJ10_min_7 : decode cJ10_min 7 = .ok (.goto 4, 3) := dk_167 0 4 (dk_at dksJ10_min_0 7 rfl rfl)
theorem dJ10_min_10 : decode cJ10_min 10 = .ok (.lload_n 2, 1) := dk_32 (dk_at dksJ10_min_0 10 rfl rfl)
theorem dJ10_min_11 : decode cJ10_min 11 = .ok (.lreturn, 1) := dk_173 (dk_at dksJ10_min_0 11 rfl rfl)
theorem q72 : (Jvm.Cond.initialized "java/lang/Math") ∈ lw_all := lw_g (lw_at lw_m1 19 rfl) rfl
theorem q546 : (Jvm.Cond.static ({ cls := "java/lang/Math", name := "max", desc := "(JJ)J" } : Jvm.MethodName)) ∈ lw_all := lw_g (lw_at lw_m3 13 rfl) rfl
theorem q547 : (Jvm.Cond.code ({ cls := "java/lang/Math", name := "max", desc := "(JJ)J" } : Jvm.MethodName) prog_16_method_66_code (4 : Nat) (Option.some Jvm.ClassFile.FieldType.long)) ∈ lw_all := lw_g (lw_at lw_m3 14 rfl) rfl
theorem q549 : (Jvm.Cond.static ({ cls := "java/lang/Math", name := "min", desc := "(JJ)J" } : Jvm.MethodName)) ∈ lw_all := lw_g (lw_at lw_m3 16 rfl) rfl
theorem q550 : (Jvm.Cond.code ({ cls := "java/lang/Math", name := "min", desc := "(JJ)J" } : Jvm.MethodName) prog_16_method_70_code (4 : Nat) (Option.some Jvm.ClassFile.FieldType.long)) ∈ lw_all := lw_g (lw_at lw_m3 17 rfl) rfl

/-! java/lang/IllegalStateException -/
set_option maxRecDepth 100000
def RJ11 : String := "java/lang/IllegalStateException"
def TJ11 : u_T := fun k => match k with
  | 0 => ("java/lang/Throwable", "cause", "Ljava/lang/Throwable;", false)
  | 1 => ("java/lang/Throwable", "stackTrace", "[Ljava/lang/StackTraceElement;", false)
  | 2 => ("java/lang/Throwable", "suppressedExceptions", "Ljava/util/List;", false)
  | 3 => ("java/lang/Throwable", "detailMessage", "Ljava/lang/String;", false)
  | 4 => ("java/lang/Throwable", "backtrace", "Ljava/lang/Object;", false)
  | _ => ("java/lang/Throwable", "depth", "I", false)
def tyJ11 : Nat → FieldType := fun k => match k with
  | 0 => .object "java/lang/Throwable"
  | 1 => .array (.object "java/lang/StackTraceElement")
  | 2 => .object "java/util/List"
  | 3 => .object "java/lang/String"
  | 4 => .object "java/lang/Object"
  | _ => .int
abbrev wsJ110 : List Cond := u_ws RJ11 TJ11 6
theorem nmJ11 : ∀ a, a < 6 → ∀ b, b < 6 → a ≠ b → (TJ11 a).2.1 ≠ (TJ11 b).2.1 := by decide +kernel
theorem tyJ11_ok : ∀ k, k < 6 → parseFieldDescriptor (TJ11 k).2.2.1 = some (tyJ11 k) := by decide +kernel
abbrev cJ11_init : ByteArray := prog_14_method_1_code
def yJ11_init : MethodName := ⟨RJ11, "<init>", "()V"⟩
theorem dJ11_init_0 : decode cJ11_init 0 = .ok (.aload_n 0, 1) := by decide +kernel
theorem dJ11_init_1 : decode cJ11_init 1 = .ok (.invokespecial 1, 3) := by decide +kernel
theorem dJ11_init_4 : decode cJ11_init 4 = .ok (.return_, 1) := by decide +kernel
theorem q73 : (Jvm.Cond.initialized "java/lang/IllegalStateException") ∈ lw_all := lw_g (lw_at lw_m1 20 rfl) rfl
theorem q184 : (Jvm.Cond.selects "java/lang/IllegalStateException" ({ cls := "java/lang/Throwable", name := "fillInStackTrace", desc := "()Ljava/lang/Throwable;" } : Jvm.MethodName) ({ cls := "java/lang/Throwable", name := "fillInStackTrace", desc := "()Ljava/lang/Throwable;" } : Jvm.MethodName)) ∈ lw_all := lw_g (lw_at lw_m1 131 rfl) rfl
theorem q551 : (Jvm.Cond.instantiable "java/lang/IllegalStateException" (6 : Nat)) ∈ lw_all := lw_g (lw_at lw_m3 18 rfl) rfl
theorem q552 : (Jvm.Cond.castable "java/lang/IllegalStateException" "java/lang/IllegalStateException") ∈ lw_tbl := lw_at lw_m3 19 rfl
theorem q553 : (Jvm.Cond.selects "java/lang/IllegalStateException" ({ cls := "java/lang/Throwable", name := "fillInStackTrace", desc := "(I)Ljava/lang/Throwable;" } : Jvm.MethodName) ({ cls := "java/lang/Throwable", name := "fillInStackTrace", desc := "(I)Ljava/lang/Throwable;" } : Jvm.MethodName)) ∈ lw_all := lw_g (lw_at lw_m3 20 rfl) rfl
theorem q554 : (Jvm.Cond.lays "java/lang/IllegalStateException" "java/lang/Throwable" "cause" "Ljava/lang/Throwable;") ∈ lw_all := lw_g (lw_at lw_m3 21 rfl) rfl
theorem q555 : (Jvm.Cond.lays "java/lang/IllegalStateException" "java/lang/Throwable" "stackTrace" "[Ljava/lang/StackTraceElement;") ∈ lw_all := lw_g (lw_at lw_m3 22 rfl) rfl
theorem q556 : (Jvm.Cond.lays "java/lang/IllegalStateException" "java/lang/Throwable" "suppressedExceptions" "Ljava/util/List;") ∈ lw_all := lw_g (lw_at lw_m3 23 rfl) rfl
theorem q557 : (Jvm.Cond.lays "java/lang/IllegalStateException" "java/lang/Throwable" "detailMessage" "Ljava/lang/String;") ∈ lw_all := lw_g (lw_at lw_m3 24 rfl) rfl
theorem q558 : (Jvm.Cond.lays "java/lang/IllegalStateException" "java/lang/Throwable" "backtrace" "Ljava/lang/Object;") ∈ lw_all := lw_g (lw_at lw_m3 25 rfl) rfl
theorem q560 : (Jvm.Cond.instanceMethod ({ cls := "java/lang/IllegalStateException", name := "<init>", desc := "()V" } : Jvm.MethodName)) ∈ lw_all := lw_g (lw_at lw_m3 27 rfl) rfl
theorem q561 : (Jvm.Cond.code ({ cls := "java/lang/IllegalStateException", name := "<init>", desc := "()V" } : Jvm.MethodName) prog_14_method_1_code (1 : Nat) (Option.none : Option Jvm.ClassFile.FieldType)) ∈ lw_all := lw_g (lw_at lw_m3 28 rfl) rfl
theorem q562 : (Jvm.Cond.methodLink "java/lang/IllegalStateException" (1 : Nat) ({ cls := "java/lang/RuntimeException", name := "<init>", desc := "()V" } : Jvm.MethodName)) ∈ lw_all := lw_g (lw_at lw_m3 29 rfl) rfl
theorem q563 : (Jvm.Cond.lays "java/lang/IllegalStateException" "java/lang/Throwable" "depth" "I") ∈ lw_all := lw_g (lw_at lw_m3 30 rfl) rfl
theorem q564 : (Jvm.Cond.superclass "java/lang/IllegalStateException" "java/lang/RuntimeException") ∈ lw_all := lw_g (lw_at lw_m3 31 rfl) rfl
theorem q1156 : (Jvm.Cond.castable "java/lang/IllegalStateException" "java/lang/Object") ∈ lw_tbl := lw_at lw_m5 143 rfl
theorem in_J11 : ∀ w ∈ wsJ110, w ∈ lw_all := lw_in wsJ110 [554, 555, 556, 557, 558, 563] (by decide +kernel) (by decide +kernel)

/-! java/lang/ArithmeticException -/
set_option maxRecDepth 100000
def RJ12 : String := "java/lang/ArithmeticException"
def TJ12 : u_T := fun k => match k with
  | 0 => ("java/lang/Throwable", "backtrace", "Ljava/lang/Object;", false)
  | 1 => ("java/lang/Throwable", "detailMessage", "Ljava/lang/String;", false)
  | 2 => ("java/lang/Throwable", "cause", "Ljava/lang/Throwable;", false)
  | 3 => ("java/lang/Throwable", "stackTrace", "[Ljava/lang/StackTraceElement;", false)
  | 4 => ("java/lang/Throwable", "depth", "I", false)
  | _ => ("java/lang/Throwable", "suppressedExceptions", "Ljava/util/List;", false)
def tyJ12 : Nat → FieldType := fun k => match k with
  | 0 => .object "java/lang/Object"
  | 1 => .object "java/lang/String"
  | 2 => .object "java/lang/Throwable"
  | 3 => .array (.object "java/lang/StackTraceElement")
  | 4 => .int
  | _ => .object "java/util/List"
abbrev wsJ120 : List Cond := u_ws RJ12 TJ12 6
theorem nmJ12 : ∀ a, a < 6 → ∀ b, b < 6 → a ≠ b → (TJ12 a).2.1 ≠ (TJ12 b).2.1 := by decide +kernel
theorem tyJ12_ok : ∀ k, k < 6 → parseFieldDescriptor (TJ12 k).2.2.1 = some (tyJ12 k) := by decide +kernel
abbrev cJ12_init : ByteArray := prog_10_method_2_code
def yJ12_init : MethodName := ⟨RJ12, "<init>", "(Ljava/lang/String;)V"⟩
def dkwJ12_init_0 : List UInt8 := [42, 43, 183, 0, 7, 177]
abbrev dktJ12_init_0 : List UInt8 := dkwJ12_init_0 ++ []
theorem dksJ12_init_0 : cJ12_init.data.toList.drop 0 = dktJ12_init_0 := by decide +kernel
theorem dJ12_init_0 : decode cJ12_init 0 = .ok (.aload_n 0, 1) := dk_42 (dk_at dksJ12_init_0 0 rfl rfl)
theorem dJ12_init_1 : decode cJ12_init 1 = .ok (.aload_n 1, 1) := dk_43 (dk_at dksJ12_init_0 1 rfl rfl)
theorem dJ12_init_2 : decode cJ12_init 2 = .ok (.invokespecial 7, 3) := dk_183 0 7 (dk_at dksJ12_init_0 2 rfl rfl)
theorem dJ12_init_5 : decode cJ12_init 5 = .ok (.return_, 1) := dk_177 (dk_at dksJ12_init_0 5 rfl rfl)
theorem q74 : (Jvm.Cond.initialized "java/lang/ArithmeticException") ∈ lw_all := lw_g (lw_at lw_m1 21 rfl) rfl
theorem q181 : (Jvm.Cond.selects "java/lang/ArithmeticException" ({ cls := "java/lang/Throwable", name := "fillInStackTrace", desc := "()Ljava/lang/Throwable;" } : Jvm.MethodName) ({ cls := "java/lang/Throwable", name := "fillInStackTrace", desc := "()Ljava/lang/Throwable;" } : Jvm.MethodName)) ∈ lw_all := lw_g (lw_at lw_m1 128 rfl) rfl
theorem q570 : (Jvm.Cond.instantiable "java/lang/ArithmeticException" (6 : Nat)) ∈ lw_all := lw_g (lw_at lw_m3 37 rfl) rfl
theorem q571 : (Jvm.Cond.instanceMethod ({ cls := "java/lang/ArithmeticException", name := "<init>", desc := "(Ljava/lang/String;)V" } : Jvm.MethodName)) ∈ lw_all := lw_g (lw_at lw_m3 38 rfl) rfl
theorem q572 : (Jvm.Cond.code ({ cls := "java/lang/ArithmeticException", name := "<init>", desc := "(Ljava/lang/String;)V" } : Jvm.MethodName) prog_10_method_2_code (2 : Nat) (Option.none : Option Jvm.ClassFile.FieldType)) ∈ lw_all := lw_g (lw_at lw_m3 39 rfl) rfl
theorem q573 : (Jvm.Cond.methodLink "java/lang/ArithmeticException" (7 : Nat) ({ cls := "java/lang/RuntimeException", name := "<init>", desc := "(Ljava/lang/String;)V" } : Jvm.MethodName)) ∈ lw_all := lw_g (lw_at lw_m3 40 rfl) rfl
theorem q574 : (Jvm.Cond.lays "java/lang/ArithmeticException" "java/lang/Throwable" "backtrace" "Ljava/lang/Object;") ∈ lw_all := lw_g (lw_at lw_m3 41 rfl) rfl
theorem q575 : (Jvm.Cond.lays "java/lang/ArithmeticException" "java/lang/Throwable" "detailMessage" "Ljava/lang/String;") ∈ lw_all := lw_g (lw_at lw_m3 42 rfl) rfl
theorem q576 : (Jvm.Cond.lays "java/lang/ArithmeticException" "java/lang/Throwable" "cause" "Ljava/lang/Throwable;") ∈ lw_all := lw_g (lw_at lw_m3 43 rfl) rfl
theorem q577 : (Jvm.Cond.lays "java/lang/ArithmeticException" "java/lang/Throwable" "stackTrace" "[Ljava/lang/StackTraceElement;") ∈ lw_all := lw_g (lw_at lw_m3 44 rfl) rfl
theorem q578 : (Jvm.Cond.lays "java/lang/ArithmeticException" "java/lang/Throwable" "depth" "I") ∈ lw_all := lw_g (lw_at lw_m3 45 rfl) rfl
theorem q579 : (Jvm.Cond.lays "java/lang/ArithmeticException" "java/lang/Throwable" "suppressedExceptions" "Ljava/util/List;") ∈ lw_all := lw_g (lw_at lw_m3 46 rfl) rfl
theorem q580 : (Jvm.Cond.superclass "java/lang/ArithmeticException" "java/lang/RuntimeException") ∈ lw_all := lw_g (lw_at lw_m3 47 rfl) rfl
theorem q581 : (Jvm.Cond.castable "java/lang/ArithmeticException" "java/lang/ArithmeticException") ∈ lw_tbl := lw_at lw_m3 48 rfl
theorem q582 : (Jvm.Cond.selects "java/lang/ArithmeticException" ({ cls := "java/lang/Throwable", name := "fillInStackTrace", desc := "(I)Ljava/lang/Throwable;" } : Jvm.MethodName) ({ cls := "java/lang/Throwable", name := "fillInStackTrace", desc := "(I)Ljava/lang/Throwable;" } : Jvm.MethodName)) ∈ lw_all := lw_g (lw_at lw_m3 49 rfl) rfl
theorem q1157 : (Jvm.Cond.castable "java/lang/ArithmeticException" "java/lang/Object") ∈ lw_tbl := lw_at lw_m5 144 rfl
theorem in_J12 : ∀ w ∈ wsJ120, w ∈ lw_all := lw_in wsJ120 [574, 575, 576, 577, 578, 579] (by decide +kernel) (by decide +kernel)

/-! java/lang/StringLatin1 -/
set_option maxRecDepth 100000
def RJ13 : String := "java/lang/StringLatin1"
abbrev cJ13_charAt : ByteArray := prog_21_method_2_code
def yJ13_charAt : MethodName := ⟨RJ13, "charAt", "([BI)C"⟩
def dkwJ13_charAt_0 : List UInt8 := [27, 42, 190, 184, 0, 9, 42, 27, 51, 17, 0, 255, 126, 146, 172]
abbrev dktJ13_charAt_0 : List UInt8 := dkwJ13_charAt_0 ++ []
theorem dksJ13_charAt_0 : cJ13_charAt.data.toList.drop 0 = dktJ13_charAt_0 := by decide +kernel
theorem dJ13_charAt_0 : decode cJ13_charAt 0 = .ok (.iload_n 1, 1) := dk_27 (dk_at dksJ13_charAt_0 0 rfl rfl)
theorem dJ13_charAt_1 : decode cJ13_charAt 1 = .ok (.aload_n 0, 1) := dk_42 (dk_at dksJ13_charAt_0 1 rfl rfl)
theorem dJ13_charAt_2 : decode cJ13_charAt 2 = .ok (.arraylength, 1) := dk_190 (dk_at dksJ13_charAt_0 2 rfl rfl)
theorem dJ13_charAt_3 : decode cJ13_charAt 3 = .ok (.invokestatic 9, 3) := dk_184 0 9 (dk_at dksJ13_charAt_0 3 rfl rfl)
theorem dJ13_charAt_6 : decode cJ13_charAt 6 = .ok (.aload_n 0, 1) := dk_42 (dk_at dksJ13_charAt_0 6 rfl rfl)
theorem dJ13_charAt_7 : decode cJ13_charAt 7 = .ok (.iload_n 1, 1) := dk_27 (dk_at dksJ13_charAt_0 7 rfl rfl)
theorem dJ13_charAt_8 : decode cJ13_charAt 8 = .ok (.baload, 1) := dk_51 (dk_at dksJ13_charAt_0 8 rfl rfl)
theorem dJ13_charAt_9 : decode cJ13_charAt 9 = .ok (.sipush 255, 3) := dk_17 0 255 (dk_at dksJ13_charAt_0 9 rfl rfl)
theorem dJ13_charAt_12 : decode cJ13_charAt 12 = .ok (.iand, 1) := dk_126 (dk_at dksJ13_charAt_0 12 rfl rfl)
theorem dJ13_charAt_13 : decode cJ13_charAt 13 = .ok (.i2c, 1) := dk_146 (dk_at dksJ13_charAt_0 13 rfl rfl)
theorem dJ13_charAt_14 : decode cJ13_charAt 14 = .ok (.ireturn, 1) := dk_172 (dk_at dksJ13_charAt_0 14 rfl rfl)
theorem q75 : (Jvm.Cond.initialized "java/lang/StringLatin1") ∈ lw_all := lw_g (lw_at lw_m1 22 rfl) rfl
theorem q662 : (Jvm.Cond.static ({ cls := "java/lang/StringLatin1", name := "charAt", desc := "([BI)C" } : Jvm.MethodName)) ∈ lw_all := lw_g (lw_at lw_m3 129 rfl) rfl
theorem q663 : (Jvm.Cond.code ({ cls := "java/lang/StringLatin1", name := "charAt", desc := "([BI)C" } : Jvm.MethodName) prog_21_method_2_code (2 : Nat) (Option.some Jvm.ClassFile.FieldType.char)) ∈ lw_all := lw_g (lw_at lw_m3 130 rfl) rfl
theorem q664 : (Jvm.Cond.methodLink "java/lang/StringLatin1" (9 : Nat) ({ cls := "java/lang/String", name := "checkIndex", desc := "(II)V" } : Jvm.MethodName)) ∈ lw_all := lw_g (lw_at lw_m3 131 rfl) rfl

/-! jdk/internal/util/Preconditions -/
set_option maxRecDepth 100000
def RJ14 : String := "jdk/internal/util/Preconditions"
abbrev cJ14_checkIndex : ByteArray := prog_26_method_11_code
def yJ14_checkIndex : MethodName := ⟨RJ14, "checkIndex", "(IILjava/util/function/BiFunction;)I"⟩
def dkwJ14_checkIndex_0 : List UInt8 := [26, 155, 0, 8, 26, 27, 161, 0, 10, 44, 26, 27, 184, 0, 95, 191, 26, 172]
abbrev dktJ14_checkIndex_0 : List UInt8 := dkwJ14_checkIndex_0 ++ []
theorem dksJ14_checkIndex_0 : cJ14_checkIndex.data.toList.drop 0 = dktJ14_checkIndex_0 := by decide +kernel
theorem dJ14_checkIndex_0 : decode cJ14_checkIndex 0 = .ok (.iload_n 0, 1) := dk_26 (dk_at dksJ14_checkIndex_0 0 rfl rfl)
theorem dJ14_checkIndex_1 : decode cJ14_checkIndex 1 = .ok (.ifCond .lt 8, 3) := dk_155 0 8 (dk_at dksJ14_checkIndex_0 1 rfl rfl)
theorem dJ14_checkIndex_4 : decode cJ14_checkIndex 4 = .ok (.iload_n 0, 1) := dk_26 (dk_at dksJ14_checkIndex_0 4 rfl rfl)
theorem dJ14_checkIndex_5 : decode cJ14_checkIndex 5 = .ok (.iload_n 1, 1) := dk_27 (dk_at dksJ14_checkIndex_0 5 rfl rfl)
theorem dJ14_checkIndex_6 : decode cJ14_checkIndex 6 = .ok (.if_icmp .lt 10, 3) := dk_161 0 10 (dk_at dksJ14_checkIndex_0 6 rfl rfl)
theorem dJ14_checkIndex_9 : decode cJ14_checkIndex 9 = .ok (.aload_n 2, 1) := dk_44 (dk_at dksJ14_checkIndex_0 9 rfl rfl)
theorem dJ14_checkIndex_10 : decode cJ14_checkIndex 10 = .ok (.iload_n 0, 1) := dk_26 (dk_at dksJ14_checkIndex_0 10 rfl rfl)
theorem dJ14_checkIndex_11 : decode cJ14_checkIndex 11 = .ok (.iload_n 1, 1) := dk_27 (dk_at dksJ14_checkIndex_0 11 rfl rfl)
theorem dJ14_checkIndex_12 : decode cJ14_checkIndex 12 = .ok (.invokestatic 95, 3) := dk_184 0 95 (dk_at dksJ14_checkIndex_0 12 rfl rfl)
theorem dJ14_checkIndex_15 : decode cJ14_checkIndex 15 = .ok (.athrow, 1) := dk_191 (dk_at dksJ14_checkIndex_0 15 rfl rfl)
theorem dJ14_checkIndex_16 : decode cJ14_checkIndex 16 = .ok (.iload_n 0, 1) := dk_26 (dk_at dksJ14_checkIndex_0 16 rfl rfl)
theorem dJ14_checkIndex_17 : decode cJ14_checkIndex 17 = .ok (.ireturn, 1) := dk_172 (dk_at dksJ14_checkIndex_0 17 rfl rfl)
theorem q76 : (Jvm.Cond.initialized "jdk/internal/util/Preconditions") ∈ lw_all := lw_g (lw_at lw_m1 23 rfl) rfl
theorem q668 : (Jvm.Cond.laysStatic "jdk/internal/util/Preconditions" "SIOOBE_FORMATTER" "Ljava/util/function/BiFunction;") ∈ lw_tbl := lw_at lw_m3 135 rfl
theorem q670 : (Jvm.Cond.static ({ cls := "jdk/internal/util/Preconditions", name := "checkIndex", desc := "(IILjava/util/function/BiFunction;)I" } : Jvm.MethodName)) ∈ lw_all := lw_g (lw_at lw_m3 137 rfl) rfl
theorem q671 : (Jvm.Cond.code ({ cls := "jdk/internal/util/Preconditions", name := "checkIndex", desc := "(IILjava/util/function/BiFunction;)I" } : Jvm.MethodName) prog_26_method_11_code (3 : Nat) (Option.some Jvm.ClassFile.FieldType.int)) ∈ lw_all := lw_g (lw_at lw_m3 138 rfl) rfl

/-! java/lang/StringUTF16 -/
set_option maxRecDepth 100000
def RJ15 : String := "java/lang/StringUTF16"
abbrev cJ15_charAt : ByteArray := prog_22_method_83_code
def yJ15_charAt : MethodName := ⟨RJ15, "charAt", "([BI)C"⟩
def dkwJ15_charAt_0 : List UInt8 := [27, 42, 184, 0, 67, 42, 27, 184, 0, 71, 172]
abbrev dktJ15_charAt_0 : List UInt8 := dkwJ15_charAt_0 ++ []
theorem dksJ15_charAt_0 : cJ15_charAt.data.toList.drop 0 = dktJ15_charAt_0 := by decide +kernel
theorem dJ15_charAt_0 : decode cJ15_charAt 0 = .ok (.iload_n 1, 1) := dk_27 (dk_at dksJ15_charAt_0 0 rfl rfl)
theorem dJ15_charAt_1 : decode cJ15_charAt 1 = .ok (.aload_n 0, 1) := dk_42 (dk_at dksJ15_charAt_0 1 rfl rfl)
theorem dJ15_charAt_2 : decode cJ15_charAt 2 = .ok (.invokestatic 67, 3) := dk_184 0 67 (dk_at dksJ15_charAt_0 2 rfl rfl)
theorem dJ15_charAt_5 : decode cJ15_charAt 5 = .ok (.aload_n 0, 1) := dk_42 (dk_at dksJ15_charAt_0 5 rfl rfl)
theorem dJ15_charAt_6 : decode cJ15_charAt 6 = .ok (.iload_n 1, 1) := dk_27 (dk_at dksJ15_charAt_0 6 rfl rfl)
theorem dJ15_charAt_7 : decode cJ15_charAt 7 = .ok (.invokestatic 71, 3) := dk_184 0 71 (dk_at dksJ15_charAt_0 7 rfl rfl)
theorem dJ15_charAt_10 : decode cJ15_charAt 10 = .ok (.ireturn, 1) := dk_172 (dk_at dksJ15_charAt_0 10 rfl rfl)
abbrev cJ15_checkIndex : ByteArray := prog_22_method_91_code
def yJ15_checkIndex : MethodName := ⟨RJ15, "checkIndex", "(I[B)V"⟩
def dkwJ15_checkIndex_0 : List UInt8 := [26, 43, 184, 0, 48, 184, 1, 158, 177]
abbrev dktJ15_checkIndex_0 : List UInt8 := dkwJ15_checkIndex_0 ++ []
theorem dksJ15_checkIndex_0 : cJ15_checkIndex.data.toList.drop 0 = dktJ15_checkIndex_0 := by decide +kernel
theorem dJ15_checkIndex_0 : decode cJ15_checkIndex 0 = .ok (.iload_n 0, 1) := dk_26 (dk_at dksJ15_checkIndex_0 0 rfl rfl)
theorem dJ15_checkIndex_1 : decode cJ15_checkIndex 1 = .ok (.aload_n 1, 1) := dk_43 (dk_at dksJ15_checkIndex_0 1 rfl rfl)
theorem dJ15_checkIndex_2 : decode cJ15_checkIndex 2 = .ok (.invokestatic 48, 3) := dk_184 0 48 (dk_at dksJ15_checkIndex_0 2 rfl rfl)
theorem dJ15_checkIndex_5 : decode cJ15_checkIndex 5 = .ok (.invokestatic 414, 3) := dk_184 1 158 (dk_at dksJ15_checkIndex_0 5 rfl rfl)
theorem dJ15_checkIndex_8 : decode cJ15_checkIndex 8 = .ok (.return_, 1) := dk_177 (dk_at dksJ15_checkIndex_0 8 rfl rfl)
abbrev cJ15_length : ByteArray := prog_22_method_6_code
def yJ15_length : MethodName := ⟨RJ15, "length", "([B)I"⟩
def dkwJ15_length_0 : List UInt8 := [42, 190, 4, 122, 172]
abbrev dktJ15_length_0 : List UInt8 := dkwJ15_length_0 ++ []
theorem dksJ15_length_0 : cJ15_length.data.toList.drop 0 = dktJ15_length_0 := by decide +kernel
theorem dJ15_length_0 : decode cJ15_length 0 = .ok (.aload_n 0, 1) := dk_42 (dk_at dksJ15_length_0 0 rfl rfl)
theorem dJ15_length_1 : decode cJ15_length 1 = .ok (.arraylength, 1) := dk_190 (dk_at dksJ15_length_0 1 rfl rfl)
theorem dJ15_length_2 : decode cJ15_length 2 = .ok (.iconst 1, 1) := dk_4 (dk_at dksJ15_length_0 2 rfl rfl)
theorem dJ15_length_3 : decode cJ15_length 3 = .ok (.ishr, 1) := dk_122 (dk_at dksJ15_length_0 3 rfl rfl)
theorem dJ15_length_4 : decode cJ15_length 4 = .ok (.ireturn, 1) := dk_172 (dk_at dksJ15_length_0 4 rfl rfl)
abbrev cJ15_getChar : ByteArray := prog_22_method_5_code
def yJ15_getChar : MethodName := ⟨RJ15, "getChar", "([BI)C"⟩
def dkwJ15_getChar_2 : List UInt8 := [51, 17, 0, 255, 126, 178, 0, 63, 120, 128, 146, 172]
abbrev dktJ15_getChar_2 : List UInt8 := dkwJ15_getChar_2 ++ []
def dkwJ15_getChar_1 : List UInt8 := [183, 0, 56, 191, 27, 4, 120, 60, 42, 27, 132, 1, 1, 51, 17, 0, 255, 126, 178, 0, 59, 120, 42, 27]
abbrev dktJ15_getChar_1 : List UInt8 := dkwJ15_getChar_1 ++ dktJ15_getChar_2
def dkwJ15_getChar_0 : List UInt8 := [178, 0, 44, 154, 0, 25, 27, 155, 0, 11, 27, 42, 184, 0, 48, 161, 0, 13, 187, 0, 52, 89, 18, 54]
abbrev dktJ15_getChar_0 : List UInt8 := dkwJ15_getChar_0 ++ dktJ15_getChar_1
theorem dksJ15_getChar_0 : cJ15_getChar.data.toList.drop 0 = dktJ15_getChar_0 := by decide +kernel
theorem dksJ15_getChar_1 : cJ15_getChar.data.toList.drop 24 = dktJ15_getChar_1 := dk_seg dksJ15_getChar_0 24 rfl rfl
theorem dksJ15_getChar_2 : cJ15_getChar.data.toList.drop 48 = dktJ15_getChar_2 := dk_seg dksJ15_getChar_1 24 rfl rfl
theorem dJ15_getChar_0 : decode cJ15_getChar 0 = .ok (.getstatic 44, 3) := dk_178 0 44 (dk_at dksJ15_getChar_0 0 rfl rfl)
theorem dJ15_getChar_3 : decode cJ15_getChar 3 = .ok (.ifCond .ne 25, 3) := dk_154 0 25 (dk_at dksJ15_getChar_0 3 rfl rfl)
theorem dJ15_getChar_6 : decode cJ15_getChar 6 = .ok (.iload_n 1, 1) := dk_27 (dk_at dksJ15_getChar_0 6 rfl rfl)
theorem dJ15_getChar_7 : decode cJ15_getChar 7 = .ok (.ifCond .lt 11, 3) := dk_155 0 11 (dk_at dksJ15_getChar_0 7 rfl rfl)
theorem dJ15_getChar_10 : decode cJ15_getChar 10 = .ok (.iload_n 1, 1) := dk_27 (dk_at dksJ15_getChar_0 10 rfl rfl)
theorem dJ15_getChar_11 : decode cJ15_getChar 11 = .ok (.aload_n 0, 1) := dk_42 (dk_at dksJ15_getChar_0 11 rfl rfl)
theorem dJ15_getChar_12 : decode cJ15_getChar 12 = .ok (.invokestatic 48, 3) := dk_184 0 48 (dk_at dksJ15_getChar_0 12 rfl rfl)
theorem dJ15_getChar_15 : decode cJ15_getChar 15 = .ok (.if_icmp .lt 13, 3) := dk_161 0 13 (dk_at dksJ15_getChar_0 15 rfl rfl)
theorem dJ15_getChar_18 : decode cJ15_getChar 18 = .ok (.new 52, 3) := dk_187 0 52 (dk_at dksJ15_getChar_0 18 rfl rfl)
theorem dJ15_getChar_21 : decode cJ15_getChar 21 = .ok (.dup, 1) := dk_89 (dk_at dksJ15_getChar_0 21 rfl rfl)
theorem dJ15_getChar_22 : decode cJ15_getChar 22 = .ok (.ldc 54, 2) := dk_18 54 (dk_at dksJ15_getChar_0 22 rfl rfl)
theorem dJ15_getChar_24 : decode cJ15_getChar 24 = .ok (.invokespecial 56, 3) := dk_183 0 56 (dk_at dksJ15_getChar_1 0 rfl rfl)
theorem dJ15_getChar_27 : decode cJ15_getChar 27 = .ok (.athrow, 1) := dk_191 (dk_at dksJ15_getChar_1 3 rfl rfl)
theorem dJ15_getChar_28 : decode cJ15_getChar 28 = .ok (.iload_n 1, 1) := dk_27 (dk_at dksJ15_getChar_1 4 rfl rfl)
theorem dJ15_getChar_29 : decode cJ15_getChar 29 = .ok (.iconst 1, 1) := dk_4 (dk_at dksJ15_getChar_1 5 rfl rfl)
theorem dJ15_getChar_30 : decode cJ15_getChar 30 = .ok (.ishl, 1) := dk_120 (dk_at dksJ15_getChar_1 6 rfl rfl)
theorem dJ15_getChar_31 : decode cJ15_getChar 31 = .ok (.istore_n 1, 1) := dk_60 (dk_at dksJ15_getChar_1 7 rfl rfl)
theorem dJ15_getChar_32 : decode cJ15_getChar 32 = .ok (.aload_n 0, 1) := dk_42 (dk_at dksJ15_getChar_1 8 rfl rfl)
theorem dJ15_getChar_33 : decode cJ15_getChar 33 = .ok (.iload_n 1, 1) := dk_27 (dk_at dksJ15_getChar_1 9 rfl rfl)
theorem dJ15_getChar_34 : decode cJ15_getChar 34 = .ok (.iinc 1 1, 3) := dk_132 1 1 (dk_at dksJ15_getChar_1 10 rfl rfl)
theorem dJ15_getChar_37 : decode cJ15_getChar 37 = .ok (.baload, 1) := dk_51 (dk_at dksJ15_getChar_1 13 rfl rfl)
theorem dJ15_getChar_38 : decode cJ15_getChar 38 = .ok (.sipush 255, 3) := dk_17 0 255 (dk_at dksJ15_getChar_1 14 rfl rfl)
theorem dJ15_getChar_41 : decode cJ15_getChar 41 = .ok (.iand, 1) := dk_126 (dk_at dksJ15_getChar_1 17 rfl rfl)
theorem dJ15_getChar_42 : decode cJ15_getChar 42 = .ok (.getstatic 59, 3) := dk_178 0 59 (dk_at dksJ15_getChar_1 18 rfl rfl)
theorem dJ15_getChar_45 : decode cJ15_getChar 45 = .ok (.ishl, 1) := dk_120 (dk_at dksJ15_getChar_1 21 rfl rfl)
theorem dJ15_getChar_46 : decode cJ15_getChar 46 = .ok (.aload_n 0, 1) := dk_42 (dk_at dksJ15_getChar_1 22 rfl rfl)
theorem dJ15_getChar_47 : decode cJ15_getChar 47 = .ok (.iload_n 1, 1) := dk_27 (dk_at dksJ15_getChar_1 23 rfl rfl)
theorem dJ15_getChar_48 : decode cJ15_getChar 48 = .ok (.baload, 1) := dk_51 (dk_at dksJ15_getChar_2 0 rfl rfl)
theorem dJ15_getChar_49 : decode cJ15_getChar 49 = .ok (.sipush 255, 3) := dk_17 0 255 (dk_at dksJ15_getChar_2 1 rfl rfl)
theorem dJ15_getChar_52 : decode cJ15_getChar 52 = .ok (.iand, 1) := dk_126 (dk_at dksJ15_getChar_2 4 rfl rfl)
theorem dJ15_getChar_53 : decode cJ15_getChar 53 = .ok (.getstatic 63, 3) := dk_178 0 63 (dk_at dksJ15_getChar_2 5 rfl rfl)
theorem dJ15_getChar_56 : decode cJ15_getChar 56 = .ok (.ishl, 1) := dk_120 (dk_at dksJ15_getChar_2 8 rfl rfl)
theorem dJ15_getChar_57 : decode cJ15_getChar 57 = .ok (.ior, 1) := dk_128 (dk_at dksJ15_getChar_2 9 rfl rfl)
theorem dJ15_getChar_58 : decode cJ15_getChar 58 = .ok (.i2c, 1) := dk_146 (dk_at dksJ15_getChar_2 10 rfl rfl)
theorem dJ15_getChar_59 : decode cJ15_getChar 59 = .ok (.ireturn, 1) := dk_172 (dk_at dksJ15_getChar_2 11 rfl rfl)
theorem q77 : (Jvm.Cond.initialized "java/lang/StringUTF16") ∈ lw_all := lw_g (lw_at lw_m1 24 rfl) rfl
theorem q673 : (Jvm.Cond.static ({ cls := "java/lang/StringUTF16", name := "charAt", desc := "([BI)C" } : Jvm.MethodName)) ∈ lw_all := lw_g (lw_at lw_m3 140 rfl) rfl
theorem q674 : (Jvm.Cond.code ({ cls := "java/lang/StringUTF16", name := "charAt", desc := "([BI)C" } : Jvm.MethodName) prog_22_method_83_code (2 : Nat) (Option.some Jvm.ClassFile.FieldType.char)) ∈ lw_all := lw_g (lw_at lw_m3 141 rfl) rfl
theorem q675 : (Jvm.Cond.methodLink "java/lang/StringUTF16" (67 : Nat) ({ cls := "java/lang/StringUTF16", name := "checkIndex", desc := "(I[B)V" } : Jvm.MethodName)) ∈ lw_all := lw_g (lw_at lw_m3 142 rfl) rfl
theorem q676 : (Jvm.Cond.static ({ cls := "java/lang/StringUTF16", name := "checkIndex", desc := "(I[B)V" } : Jvm.MethodName)) ∈ lw_all := lw_g (lw_at lw_m3 143 rfl) rfl
theorem q677 : (Jvm.Cond.code ({ cls := "java/lang/StringUTF16", name := "checkIndex", desc := "(I[B)V" } : Jvm.MethodName) prog_22_method_91_code (2 : Nat) (Option.none : Option Jvm.ClassFile.FieldType)) ∈ lw_all := lw_g (lw_at lw_m3 144 rfl) rfl
theorem q678 : (Jvm.Cond.methodLink "java/lang/StringUTF16" (48 : Nat) ({ cls := "java/lang/StringUTF16", name := "length", desc := "([B)I" } : Jvm.MethodName)) ∈ lw_all := lw_g (lw_at lw_m3 145 rfl) rfl
theorem q679 : (Jvm.Cond.static ({ cls := "java/lang/StringUTF16", name := "length", desc := "([B)I" } : Jvm.MethodName)) ∈ lw_all := lw_g (lw_at lw_m3 146 rfl) rfl
theorem q680 : (Jvm.Cond.code ({ cls := "java/lang/StringUTF16", name := "length", desc := "([B)I" } : Jvm.MethodName) prog_22_method_6_code (1 : Nat) (Option.some Jvm.ClassFile.FieldType.int)) ∈ lw_all := lw_g (lw_at lw_m3 147 rfl) rfl
theorem q681 : (Jvm.Cond.methodLink "java/lang/StringUTF16" (414 : Nat) ({ cls := "java/lang/String", name := "checkIndex", desc := "(II)V" } : Jvm.MethodName)) ∈ lw_all := lw_g (lw_at lw_m3 148 rfl) rfl
theorem q682 : (Jvm.Cond.methodLink "java/lang/StringUTF16" (71 : Nat) ({ cls := "java/lang/StringUTF16", name := "getChar", desc := "([BI)C" } : Jvm.MethodName)) ∈ lw_all := lw_g (lw_at lw_m3 149 rfl) rfl
theorem q683 : (Jvm.Cond.static ({ cls := "java/lang/StringUTF16", name := "getChar", desc := "([BI)C" } : Jvm.MethodName)) ∈ lw_all := lw_g (lw_at lw_m3 150 rfl) rfl
theorem q684 : (Jvm.Cond.code ({ cls := "java/lang/StringUTF16", name := "getChar", desc := "([BI)C" } : Jvm.MethodName) prog_22_method_5_code (2 : Nat) (Option.some Jvm.ClassFile.FieldType.char)) ∈ lw_all := lw_g (lw_at lw_m3 151 rfl) rfl
theorem q685 : (Jvm.Cond.fieldLink "java/lang/StringUTF16" (44 : Nat) "java/lang/StringUTF16" "$assertionsDisabled" "Z") ∈ lw_all := lw_g (lw_at lw_m3 152 rfl) rfl
theorem q686 : (Jvm.Cond.laysStatic "java/lang/StringUTF16" "$assertionsDisabled" "Z") ∈ lw_tbl := lw_at lw_m3 153 rfl
theorem q687 : (Jvm.Cond.fieldLink "java/lang/StringUTF16" (59 : Nat) "java/lang/StringUTF16" "HI_BYTE_SHIFT" "I") ∈ lw_all := lw_g (lw_at lw_m3 154 rfl) rfl
theorem q688 : (Jvm.Cond.laysStatic "java/lang/StringUTF16" "HI_BYTE_SHIFT" "I") ∈ lw_tbl := lw_at lw_m3 155 rfl
theorem q689 : (Jvm.Cond.fieldLink "java/lang/StringUTF16" (63 : Nat) "java/lang/StringUTF16" "LO_BYTE_SHIFT" "I") ∈ lw_all := lw_g (lw_at lw_m3 156 rfl) rfl
theorem q690 : (Jvm.Cond.laysStatic "java/lang/StringUTF16" "LO_BYTE_SHIFT" "I") ∈ lw_tbl := lw_at lw_m3 157 rfl

/-! java/lang/Object -/
set_option maxRecDepth 100000
def RJ16 : String := "java/lang/Object"
abbrev cJ16_init : ByteArray := object_method_1_code
def yJ16_init : MethodName := ⟨RJ16, "<init>", "()V"⟩
theorem dJ16_init_0 : decode cJ16_init 0 = .ok (.return_, 1) := by decide +kernel
theorem q84 : (Jvm.Cond.instanceMethod ({ cls := "java/lang/Object", name := "<init>", desc := "()V" } : Jvm.MethodName)) ∈ lw_all := lw_g (lw_at lw_m1 31 rfl) rfl
theorem q85 : (Jvm.Cond.code ({ cls := "java/lang/Object", name := "<init>", desc := "()V" } : Jvm.MethodName) object_method_1_code (1 : Nat) (Option.none : Option Jvm.ClassFile.FieldType)) ∈ lw_all := lw_g (lw_at lw_m1 32 rfl) rfl
